/-! the whole table -/
theorem af_0 : AllF (fun y => NoM TB y ∨ MtOK TB NT IT y) 0 16 := ⟨Or.inr mt_0, Or.inr mt_1, Or.inr mt_2, Or.inr mt_3, Or.inr mt_4, Or.inr mt_5, Or.inr mt_6, Or.inr mt_7, Or.inr mt_8, Or.inr mt_9, Or.inr mt_10, Or.inr mt_11, Or.inr mt_12, Or.inr mt_13, Or.inr mt_14, Or.inr mt_15, trivial⟩
theorem af_1 : AllF (fun y => NoM TB y ∨ MtOK TB NT IT y) 16 16 := ⟨Or.inr mt_16, Or.inr mt_17, Or.inr mt_18, Or.inr mt_19, Or.inr mt_20, Or.inr mt_21, Or.inr mt_22, Or.inr mt_23, Or.inr mt_24, Or.inr mt_25, Or.inr mt_26, Or.inr mt_27, Or.inr mt_28, Or.inr mt_29, Or.inr mt_30, Or.inr mt_31, trivial⟩
theorem af_2 : AllF (fun y => NoM TB y ∨ MtOK TB NT IT y) 32 16 := ⟨Or.inr mt_32, Or.inr mt_33, Or.inr mt_34, Or.inr mt_35, Or.inr mt_36, Or.inr mt_37, Or.inr mt_38, Or.inr mt_39, Or.inr mt_40, Or.inr mt_41, Or.inr mt_42, Or.inr mt_43, Or.inr mt_44, Or.inr mt_45, Or.inr mt_46, Or.inr mt_47, trivial⟩
theorem af_3 : AllF (fun y => NoM TB y ∨ MtOK TB NT IT y) 48 16 := ⟨Or.inr mt_48, Or.inr mt_49, Or.inr mt_50, Or.inr mt_51, Or.inr mt_52, Or.inr mt_53, Or.inr mt_54, Or.inr mt_55, Or.inr mt_56, Or.inr mt_57, Or.inr mt_58, Or.inr mt_59, Or.inr mt_60, Or.inr mt_61, Or.inr mt_62, Or.inr mt_63, trivial⟩
theorem af_4 : AllF (fun y => NoM TB y ∨ MtOK TB NT IT y) 64 16 := ⟨Or.inr mt_64, Or.inr mt_65, Or.inr mt_66, Or.inr mt_67, Or.inr mt_68, Or.inr mt_69, Or.inr mt_70, Or.inr mt_71, Or.inr mt_72, Or.inr mt_73, Or.inr mt_74, Or.inr mt_75, Or.inr mt_76, Or.inr mt_77, Or.inr mt_78, Or.inr mt_79, trivial⟩
theorem af_5 : AllF (fun y => NoM TB y ∨ MtOK TB NT IT y) 80 16 := ⟨Or.inr mt_80, Or.inr mt_81, Or.inr mt_82, Or.inr mt_83, Or.inr mt_84, Or.inr mt_85, Or.inr mt_86, Or.inr mt_87, Or.inr mt_88, Or.inr mt_89, Or.inr mt_90, Or.inr mt_91, Or.inr mt_92, Or.inr mt_93, Or.inr mt_94, Or.inr mt_95, trivial⟩
theorem af_6 : AllF (fun y => NoM TB y ∨ MtOK TB NT IT y) 96 16 := ⟨Or.inr mt_96, Or.inr mt_97, Or.inr mt_98, Or.inr mt_99, Or.inr mt_100, Or.inr mt_101, Or.inr mt_102, Or.inr mt_103, Or.inr mt_104, Or.inr mt_105, Or.inr mt_106, Or.inr mt_107, Or.inr mt_108, Or.inr mt_109, Or.inr mt_110, Or.inr mt_111, trivial⟩
theorem af_7 : AllF (fun y => NoM TB y ∨ MtOK TB NT IT y) 112 16 := ⟨Or.inr mt_112, Or.inr mt_113, Or.inr mt_114, Or.inr mt_115, Or.inr mt_116, Or.inr mt_117, Or.inr mt_118, Or.inr mt_119, Or.inr mt_120, Or.inr mt_121, Or.inr mt_122, Or.inr mt_123, Or.inr mt_124, Or.inr mt_125, Or.inr mt_126, Or.inr mt_127, trivial⟩
theorem af_8 : AllF (fun y => NoM TB y ∨ MtOK TB NT IT y) 128 16 := ⟨Or.inr mt_128, Or.inr mt_129, Or.inr mt_130, Or.inr mt_131, Or.inr mt_132, Or.inr mt_133, Or.inr mt_134, Or.inr mt_135, Or.inr mt_136, Or.inr mt_137, Or.inr mt_138, Or.inr mt_139, Or.inr mt_140, Or.inr mt_141, Or.inr mt_142, Or.inr mt_143, trivial⟩
theorem af_9 : AllF (fun y => NoM TB y ∨ MtOK TB NT IT y) 144 16 := ⟨Or.inr mt_144, Or.inr mt_145, Or.inr mt_146, Or.inr mt_147, Or.inr mt_148, Or.inr mt_149, Or.inr mt_150, Or.inr mt_151, Or.inr mt_152, Or.inr mt_153, Or.inr mt_154, Or.inr mt_155, Or.inr mt_156, Or.inr mt_157, Or.inr mt_158, Or.inr mt_159, trivial⟩
theorem af_10 : AllF (fun y => NoM TB y ∨ MtOK TB NT IT y) 160 16 := ⟨Or.inr mt_160, Or.inr mt_161, Or.inr mt_162, Or.inr mt_163, Or.inr mt_164, Or.inr mt_165, Or.inr mt_166, Or.inr mt_167, Or.inr mt_168, Or.inr mt_169, Or.inr mt_170, Or.inr mt_171, Or.inr mt_172, Or.inr mt_173, Or.inr mt_174, Or.inr mt_175, trivial⟩
theorem af_11 : AllF (fun y => NoM TB y ∨ MtOK TB NT IT y) 176 16 := ⟨Or.inr mt_176, Or.inr mt_177, Or.inr mt_178, Or.inr mt_179, Or.inr mt_180, Or.inr mt_181, Or.inr mt_182, Or.inr mt_183, Or.inr mt_184, Or.inr mt_185, Or.inr mt_186, Or.inr mt_187, Or.inr mt_188, Or.inr mt_189, Or.inr mt_190, Or.inr mt_191, trivial⟩
theorem af_12 : AllF (fun y => NoM TB y ∨ MtOK TB NT IT y) 192 16 := ⟨Or.inr mt_192, Or.inr mt_193, Or.inr mt_194, Or.inr mt_195, Or.inr mt_196, Or.inr mt_197, Or.inr mt_198, Or.inr mt_199, Or.inr mt_200, Or.inr mt_201, Or.inr mt_202, Or.inr mt_203, Or.inr mt_204, Or.inr mt_205, Or.inr mt_206, Or.inr mt_207, trivial⟩
theorem af_13 : AllF (fun y => NoM TB y ∨ MtOK TB NT IT y) 208 16 := ⟨Or.inr mt_208, Or.inr mt_209, Or.inr mt_210, Or.inr mt_211, Or.inr mt_212, Or.inr mt_213, Or.inr mt_214, Or.inr mt_215, Or.inr mt_216, Or.inr mt_217, Or.inr mt_218, Or.inr mt_219, Or.inr mt_220, Or.inr mt_221, Or.inr mt_222, Or.inr mt_223, trivial⟩
theorem af_14 : AllF (fun y => NoM TB y ∨ MtOK TB NT IT y) 224 16 := ⟨Or.inr mt_224, Or.inr mt_225, Or.inr mt_226, Or.inr mt_227, Or.inr mt_228, Or.inr mt_229, Or.inr mt_230, Or.inr mt_231, Or.inr mt_232, Or.inr mt_233, Or.inr mt_234, Or.inr mt_235, Or.inr mt_236, Or.inr mt_237, Or.inr mt_238, Or.inr mt_239, trivial⟩
theorem af_15 : AllF (fun y => NoM TB y ∨ MtOK TB NT IT y) 240 16 := ⟨Or.inr mt_240, Or.inr mt_241, Or.inr mt_242, Or.inr mt_243, Or.inr mt_244, Or.inr mt_245, Or.inr mt_246, Or.inr mt_247, Or.inr mt_248, Or.inr mt_249, Or.inr mt_250, Or.inr mt_251, Or.inr mt_252, Or.inr mt_253, Or.inr mt_254, Or.inr mt_255, trivial⟩
theorem af_16 : AllF (fun y => NoM TB y ∨ MtOK TB NT IT y) 256 16 := ⟨Or.inr mt_256, Or.inr mt_257, Or.inr mt_258, Or.inr mt_259, Or.inr mt_260, Or.inr mt_261, Or.inr mt_262, Or.inr mt_263, Or.inr mt_264, Or.inr mt_265, Or.inr mt_266, Or.inr mt_267, Or.inr mt_268, Or.inr mt_269, Or.inr mt_270, Or.inr mt_271, trivial⟩
theorem af_17 : AllF (fun y => NoM TB y ∨ MtOK TB NT IT y) 272 16 := ⟨Or.inr mt_272, Or.inr mt_273, Or.inr mt_274, Or.inr mt_275, Or.inr mt_276, Or.inr mt_277, Or.inr mt_278, Or.inr mt_279, Or.inr mt_280, Or.inr mt_281, Or.inr mt_282, Or.inr mt_283, Or.inr mt_284, Or.inr mt_285, Or.inr mt_286, Or.inr mt_287, trivial⟩
theorem af_18 : AllF (fun y => NoM TB y ∨ MtOK TB NT IT y) 288 16 := ⟨Or.inr mt_288, Or.inr mt_289, Or.inr mt_290, Or.inr mt_291, Or.inr mt_292, Or.inr mt_293, Or.inr mt_294, Or.inr mt_295, Or.inr mt_296, Or.inr mt_297, Or.inr mt_298, Or.inr mt_299, Or.inr mt_300, Or.inr mt_301, Or.inr mt_302, Or.inr mt_303, trivial⟩
theorem af_19 : AllF (fun y => NoM TB y ∨ MtOK TB NT IT y) 304 16 := ⟨Or.inr mt_304, Or.inr mt_305, Or.inr mt_306, Or.inr mt_307, Or.inr mt_308, Or.inr mt_309, Or.inr mt_310, Or.inr mt_311, Or.inr mt_312, Or.inr mt_313, Or.inr mt_314, Or.inr mt_315, Or.inr mt_316, Or.inr mt_317, Or.inr mt_318, Or.inr mt_319, trivial⟩
theorem af_20 : AllF (fun y => NoM TB y ∨ MtOK TB NT IT y) 320 16 := ⟨Or.inr mt_320, Or.inr mt_321, Or.inr mt_322, Or.inr mt_323, Or.inr mt_324, Or.inr mt_325, Or.inr mt_326, Or.inr mt_327, Or.inr mt_328, Or.inr mt_329, Or.inr mt_330, Or.inr mt_331, Or.inr mt_332, Or.inr mt_333, Or.inr mt_334, Or.inr mt_335, trivial⟩
theorem af_21 : AllF (fun y => NoM TB y ∨ MtOK TB NT IT y) 336 16 := ⟨Or.inr mt_336, Or.inr mt_337, Or.inr mt_338, Or.inr mt_339, Or.inr mt_340, Or.inr mt_341, Or.inr mt_342, Or.inr mt_343, Or.inr mt_344, Or.inr mt_345, Or.inr mt_346, Or.inr mt_347, Or.inr mt_348, Or.inr mt_349, Or.inr mt_350, Or.inr mt_351, trivial⟩
theorem af_22 : AllF (fun y => NoM TB y ∨ MtOK TB NT IT y) 352 16 := ⟨Or.inr mt_352, Or.inr mt_353, Or.inr mt_354, Or.inr mt_355, Or.inr mt_356, Or.inr mt_357, Or.inr mt_358, Or.inr mt_359, Or.inr mt_360, Or.inr mt_361, Or.inr mt_362, Or.inr mt_363, Or.inr mt_364, Or.inr mt_365, Or.inr mt_366, Or.inr mt_367, trivial⟩
theorem af_23 : AllF (fun y => NoM TB y ∨ MtOK TB NT IT y) 368 16 := ⟨Or.inr mt_368, Or.inr mt_369, Or.inr mt_370, Or.inr mt_371, Or.inr mt_372, Or.inr mt_373, Or.inr mt_374, Or.inr mt_375, Or.inr mt_376, Or.inr mt_377, Or.inr mt_378, Or.inr mt_379, Or.inr mt_380, Or.inr mt_381, Or.inr mt_382, Or.inr mt_383, trivial⟩
theorem af_24 : AllF (fun y => NoM TB y ∨ MtOK TB NT IT y) 384 16 := ⟨Or.inr mt_384, Or.inr mt_385, Or.inr mt_386, Or.inr mt_387, Or.inr mt_388, Or.inr mt_389, Or.inr mt_390, Or.inr mt_391, Or.inr mt_392, Or.inr mt_393, Or.inr mt_394, Or.inr mt_395, Or.inr mt_396, Or.inr mt_397, Or.inr mt_398, Or.inr mt_399, trivial⟩
theorem af_25 : AllF (fun y => NoM TB y ∨ MtOK TB NT IT y) 400 16 := ⟨Or.inr mt_400, Or.inr mt_401, Or.inr mt_402, Or.inr mt_403, Or.inr mt_404, Or.inr mt_405, Or.inr mt_406, Or.inr mt_407, Or.inr mt_408, Or.inr mt_409, Or.inr mt_410, Or.inr mt_411, Or.inr mt_412, Or.inr mt_413, Or.inr mt_414, Or.inr mt_415, trivial⟩
theorem af_26 : AllF (fun y => NoM TB y ∨ MtOK TB NT IT y) 416 16 := ⟨Or.inr mt_416, Or.inr mt_417, Or.inr mt_418, Or.inr mt_419, Or.inr mt_420, Or.inr mt_421, Or.inr mt_422, Or.inr mt_423, Or.inr mt_424, Or.inr mt_425, Or.inl (fun _ => rfl), Or.inl (fun _ => rfl), Or.inl (fun _ => rfl), Or.inl (fun _ => rfl), Or.inl (fun _ => rfl), Or.inl (fun _ => rfl), trivial⟩
theorem tb_ok : TbOK TB NT IT := fun y => by
  by_cases h : 432 ≤ y
  · exact Or.inl (fun pc => by rw [show TB y = K_ from tget_out h]; rfl)
  · have h : y < 432 := Nat.not_le.mp h
    by_cases h0 : y < 16
    · exact af_0.get y (by omega) (by omega)
    by_cases h1 : y < 32
    · exact af_1.get y (by omega) (by omega)
    by_cases h2 : y < 48
    · exact af_2.get y (by omega) (by omega)
    by_cases h3 : y < 64
    · exact af_3.get y (by omega) (by omega)
    by_cases h4 : y < 80
    · exact af_4.get y (by omega) (by omega)
    by_cases h5 : y < 96
    · exact af_5.get y (by omega) (by omega)
    by_cases h6 : y < 112
    · exact af_6.get y (by omega) (by omega)
    by_cases h7 : y < 128
    · exact af_7.get y (by omega) (by omega)
    by_cases h8 : y < 144
    · exact af_8.get y (by omega) (by omega)
    by_cases h9 : y < 160
    · exact af_9.get y (by omega) (by omega)
    by_cases h10 : y < 176
    · exact af_10.get y (by omega) (by omega)
    by_cases h11 : y < 192
    · exact af_11.get y (by omega) (by omega)
    by_cases h12 : y < 208
    · exact af_12.get y (by omega) (by omega)
    by_cases h13 : y < 224
    · exact af_13.get y (by omega) (by omega)
    by_cases h14 : y < 240
    · exact af_14.get y (by omega) (by omega)
    by_cases h15 : y < 256
    · exact af_15.get y (by omega) (by omega)
    by_cases h16 : y < 272
    · exact af_16.get y (by omega) (by omega)
    by_cases h17 : y < 288
    · exact af_17.get y (by omega) (by omega)
    by_cases h18 : y < 304
    · exact af_18.get y (by omega) (by omega)
    by_cases h19 : y < 320
    · exact af_19.get y (by omega) (by omega)
    by_cases h20 : y < 336
    · exact af_20.get y (by omega) (by omega)
    by_cases h21 : y < 352
    · exact af_21.get y (by omega) (by omega)
    by_cases h22 : y < 368
    · exact af_22.get y (by omega) (by omega)
    by_cases h23 : y < 384
    · exact af_23.get y (by omega) (by omega)
    by_cases h24 : y < 400
    · exact af_24.get y (by omega) (by omega)
    by_cases h25 : y < 416
    · exact af_25.get y (by omega) (by omega)
    exact af_26.get y (by omega) (by omega)
