/-! the links: printed by gen/mklinks.py out of the tables' words -/
set_option maxRecDepth 100000
theorem jw_X1 : ∀ r : vw_C, jcl[0]? = some r → 1 ≤ 2 ∧ r.2.2 ≤ 4 * 2 := fun r hr => by obtain rfl : (RX1, TX1, 7) = r := Option.some.inj hr; exact ⟨by decide, by decide⟩
theorem jw_X2 : ∀ r : vw_C, jcl[1]? = some r → 1 ≤ 2 ∧ r.2.2 ≤ 4 * 2 := fun r hr => by obtain rfl : (RX2, TX2, 6) = r := Option.some.inj hr; exact ⟨by decide, by decide⟩
theorem jw_X5 : ∀ r : vw_C, jcl[2]? = some r → 1 ≤ 2 ∧ r.2.2 ≤ 4 * 2 := fun r hr => by obtain rfl : (RX5, TX5, 6) = r := Option.some.inj hr; exact ⟨by decide, by decide⟩
theorem jw_X4 : ∀ r : vw_C, jcl[3]? = some r → 1 ≤ 2 ∧ r.2.2 ≤ 4 * 2 := fun r hr => by obtain rfl : (RX4, TX4, 5) = r := Option.some.inj hr; exact ⟨by decide, by decide⟩
theorem jw_X6 : ∀ r : vw_C, jcl[4]? = some r → 1 ≤ 1 ∧ r.2.2 ≤ 4 * 1 := fun r hr => by obtain rfl : (RX6, TX6, 2) = r := Option.some.inj hr; exact ⟨by decide, by decide⟩
theorem jw_X7 : ∀ r : vw_C, jcl[5]? = some r → 1 ≤ 1 ∧ r.2.2 ≤ 4 * 1 := fun r hr => by obtain rfl : (RX7, TX7, 2) = r := Option.some.inj hr; exact ⟨by decide, by decide⟩
theorem jw_X8 : ∀ r : vw_C, jcl[6]? = some r → 1 ≤ 1 ∧ r.2.2 ≤ 4 * 1 := fun r hr => by obtain rfl : (RX8, TX8, 2) = r := Option.some.inj hr; exact ⟨by decide, by decide⟩
theorem jw_X9 : ∀ r : vw_C, jcl[7]? = some r → 1 ≤ 2 ∧ r.2.2 ≤ 4 * 2 := fun r hr => by obtain rfl : (RX9, TX9, 7) = r := Option.some.inj hr; exact ⟨by decide, by decide⟩
theorem jw_X3 : ∀ r : vw_C, jcl[8]? = some r → 1 ≤ 5 ∧ r.2.2 ≤ 4 * 5 := fun r hr => by obtain rfl : (RX3, TX3, 17) = r := Option.some.inj hr; exact ⟨by decide, by decide⟩
theorem jw_J1 : ∀ r : vw_C, jcl[9]? = some r → 1 ≤ 2 ∧ r.2.2 ≤ 4 * 2 := fun r hr => by obtain rfl : (RJ1, TJ1, 8) = r := Option.some.inj hr; exact ⟨by decide, by decide⟩
theorem jw_J24 : ∀ r : vw_C, jcl[10]? = some r → 1 ≤ 1 ∧ r.2.2 ≤ 4 * 1 := fun r hr => by obtain rfl : (RJ24, TJ24, 4) = r := Option.some.inj hr; exact ⟨by decide, by decide⟩
theorem jw_J4 : ∀ r : vw_C, jcl[11]? = some r → 1 ≤ 1 ∧ r.2.2 ≤ 4 * 1 := fun r hr => by obtain rfl : (RJ4, TJ4, 3) = r := Option.some.inj hr; exact ⟨by decide, by decide⟩
theorem jw_J10 : ∀ r : vw_C, jcl[12]? = some r → 1 ≤ 1 ∧ r.2.2 ≤ 4 * 1 := fun r hr => by obtain rfl : (RJ10, TJ10, 4) = r := Option.some.inj hr; exact ⟨by decide, by decide⟩
theorem jw_J5 : ∀ r : vw_C, jcl[13]? = some r → 1 ≤ 1 ∧ r.2.2 ≤ 4 * 1 := fun r hr => by obtain rfl : (RJ5, TJ5, 3) = r := Option.some.inj hr; exact ⟨by decide, by decide⟩
theorem jw_J7 : ∀ r : vw_C, jcl[14]? = some r → 1 ≤ 1 ∧ r.2.2 ≤ 4 * 1 := fun r hr => by obtain rfl : (RJ7, TJ7, 4) = r := Option.some.inj hr; exact ⟨by decide, by decide⟩
theorem jw_J8 : ∀ r : vw_C, jcl[15]? = some r → 1 ≤ 1 ∧ r.2.2 ≤ 4 * 1 := fun r hr => by obtain rfl : (RJ8, TJ8, 4) = r := Option.some.inj hr; exact ⟨by decide, by decide⟩
theorem jw_J19 : ∀ r : vw_C, jcl[16]? = some r → 1 ≤ 1 ∧ r.2.2 ≤ 4 * 1 := fun r hr => by obtain rfl : (RJ19, TJ19, 1) = r := Option.some.inj hr; exact ⟨by decide, by decide⟩
theorem kn_X0_8 : JLN RX0 8 0 [.null, .null, .null, .null, .null, .int 0, .int 0] := ⟨(RX1, TX1, 7), rfl, in_X1, ⟨tyX1, tyX1_ok, fun j hj => by have hj : j < 7 := hj; rcases (show j = 0 ∨ j = 1 ∨ j = 2 ∨ j = 3 ∨ j = 4 ∨ j = 5 ∨ j = 6 by omega) with rfl | rfl | rfl | rfl | rfl | rfl | rfl <;> rfl⟩, q128, q129, q81⟩
theorem kc_X0_8 : JLC RX0 8 0 := ⟨"CloudInterviews", (RX1, TX1, 7), rfl, q128, Or.inl rfl⟩
theorem ki_X0_161 : JI RX0 161 yX1_init cX1_init 1 0 := ⟨q130, q131, q81, q132, rfl, ⟨by decide +kernel, by decide +kernel, by decide +kernel⟩, by decide⟩
theorem ko_X1_28 : JLO RX1 28 := ⟨q133, q134, q135⟩
theorem kn_X1_31 : JLN RX1 31 1 [.null, .null, .null, .null, .int 0, .int 0] := ⟨(RX2, TX2, 6), rfl, in_X2, ⟨tyX2, tyX2_ok, fun j hj => by have hj : j < 6 := hj; rcases (show j = 0 ∨ j = 1 ∨ j = 2 ∨ j = 3 ∨ j = 4 ∨ j = 5 by omega) with rfl | rfl | rfl | rfl | rfl | rfl <;> rfl⟩, q136, q137, q82⟩
theorem kc_X1_31 : JLC RX1 31 1 := ⟨"CloudInterviews$Board", (RX2, TX2, 6), rfl, q136, Or.inl rfl⟩
theorem ki_X1_33 : JIN RX1 33 yX2_init cX2_init 1 0 := ⟨⟨"CloudInterviews", q138⟩, q139, q82, q140, rfl, ⟨by decide +kernel, by decide +kernel, by decide +kernel⟩, by decide⟩
theorem ko_X2_3 : JLO RX2 3 := ⟨q141, q134, q135⟩
theorem kn_X2_9 : JLN RX2 9 9 [.null, .null, .null, .null, .int 0, .int 0, .int 0, .float 0] := ⟨(RJ1, TJ1, 8), rfl, in_J1, ⟨tyJ1, tyJ1_ok, fun j hj => by have hj : j < 8 := hj; rcases (show j = 0 ∨ j = 1 ∨ j = 2 ∨ j = 3 ∨ j = 4 ∨ j = 5 ∨ j = 6 ∨ j = 7 by omega) with rfl | rfl | rfl | rfl | rfl | rfl | rfl | rfl <;> rfl⟩, q142, q143, q84⟩
theorem kc_X2_9 : JLC RX2 9 9 := ⟨"java/util/HashMap", (RJ1, TJ1, 8), rfl, q142, Or.inl rfl⟩
theorem ki_X2_11 : JI RX2 11 yJ1_init cJ1_init 1 0 := ⟨q144, q145, q84, q146, rfl, ⟨by decide +kernel, by decide +kernel, by decide +kernel⟩, by decide⟩
theorem ki_J1_43 : JI RJ1 43 yJ0_init cJ0_init 1 0 := ⟨q147, q148, q83, q149, rfl, ⟨by decide +kernel, by decide +kernel, by decide +kernel⟩, by decide⟩
theorem ko_J0_1 : JLO RJ0 1 := ⟨q150, q134, q135⟩
theorem kg_J1_105 : JLG RJ1 105 9 2 := ⟨"java/util/HashMap", (RJ1, TJ1, 8), rfl, in_J1, by decide, Or.inl q152, Or.inl rfl⟩
theorem kp_J1_105 : JLP RJ1 105 9 2 (.array (.object "java/util/HashMap$Node")) false := ⟨kg_J1_105, fun r hr => by obtain rfl : (RJ1, TJ1, 8) = r := Option.some.inj hr; exact ⟨⟨tyJ1, tyJ1_ok, rfl⟩, nmJ1, rfl, fun h => by cases h⟩⟩
theorem kg_J1_156 : JLG RJ1 156 9 4 := ⟨"java/util/HashMap", (RJ1, TJ1, 8), rfl, in_J1, by decide, Or.inl q153, Or.inl rfl⟩
theorem kp_J1_156 : JLP RJ1 156 9 4 .int false := ⟨kg_J1_156, fun r hr => by obtain rfl : (RJ1, TJ1, 8) = r := Option.some.inj hr; exact ⟨⟨tyJ1, tyJ1_ok, rfl⟩, nmJ1, rfl, fun h => by cases h⟩⟩
theorem kg_J1_202 : JLG RJ1 202 9 5 := ⟨"java/util/HashMap", (RJ1, TJ1, 8), rfl, in_J1, by decide, Or.inl q154, Or.inl rfl⟩
theorem kp_J1_202 : JLP RJ1 202 9 5 .int false := ⟨kg_J1_202, fun r hr => by obtain rfl : (RJ1, TJ1, 8) = r := Option.some.inj hr; exact ⟨⟨tyJ1, tyJ1_ok, rfl⟩, nmJ1, rfl, fun h => by cases h⟩⟩
theorem kg_J1_88 : JLG RJ1 88 9 6 := ⟨"java/util/HashMap", (RJ1, TJ1, 8), rfl, in_J1, by decide, Or.inl q155, Or.inl rfl⟩
theorem kp_J1_88 : JLP RJ1 88 9 6 .int false := ⟨kg_J1_88, fun r hr => by obtain rfl : (RJ1, TJ1, 8) = r := Option.some.inj hr; exact ⟨⟨tyJ1, tyJ1_ok, rfl⟩, nmJ1, rfl, fun h => by cases h⟩⟩
theorem kg_J1_81 : JLG RJ1 81 9 7 := ⟨"java/util/HashMap", (RJ1, TJ1, 8), rfl, in_J1, by decide, Or.inl q156, Or.inl rfl⟩
theorem kp_J1_81 : JLP RJ1 81 9 7 .float true := ⟨kg_J1_81, fun r hr => by obtain rfl : (RJ1, TJ1, 8) = r := Option.some.inj hr; exact ⟨⟨tyJ1, tyJ1_ok, rfl⟩, nmJ1, rfl, fun _ => rfl⟩⟩
theorem kn_X2_18 : JLN RX2 18 11 [.int 0, .null, .int 0] := ⟨(RJ4, TJ4, 3), rfl, in_J4, ⟨tyJ4, tyJ4_ok, fun j hj => by have hj : j < 3 := hj; rcases (show j = 0 ∨ j = 1 ∨ j = 2 by omega) with rfl | rfl | rfl <;> rfl⟩, q174, q175, q87⟩
theorem kc_X2_18 : JLC RX2 18 11 := ⟨"java/util/ArrayList", (RJ4, TJ4, 3), rfl, q174, Or.inl rfl⟩
theorem ki_X2_20 : JI RX2 20 yJ4_init cJ4_init 1 0 := ⟨q176, q177, q87, q178, rfl, ⟨by decide +kernel, by decide +kernel, by decide +kernel⟩, by decide⟩
theorem ki_J4_1 : JI RJ4 1 yJ3_init cJ3_init 1 0 := ⟨q179, q180, q86, q181, rfl, ⟨by decide +kernel, by decide +kernel, by decide +kernel⟩, by decide⟩
theorem ki_J3_1 : JI RJ3 1 yJ2_init cJ2_init 1 0 := ⟨q182, q183, q85, q184, rfl, ⟨by decide +kernel, by decide +kernel, by decide +kernel⟩, by decide⟩
theorem ko_J2_1 : JLO RJ2 1 := ⟨q185, q134, q135⟩
theorem kst_J4_39 : JLS RJ4 39 "java/util/ArrayList" "DEFAULTCAPACITY_EMPTY_ELEMENTDATA" "[Ljava/lang/Object;" := ⟨"java/util/ArrayList", q186, Or.inl rfl⟩
theorem kg_J4_9 : JLG RJ4 9 11 1 := ⟨"java/util/ArrayList", (RJ4, TJ4, 3), rfl, in_J4, by decide, Or.inl q188, Or.inl rfl⟩
theorem kp_J4_9 : JLP RJ4 9 11 1 (.array (.object "java/lang/Object")) false := ⟨kg_J4_9, fun r hr => by obtain rfl : (RJ4, TJ4, 3) = r := Option.some.inj hr; exact ⟨⟨tyJ4, tyJ4_ok, rfl⟩, nmJ4, rfl, fun h => by cases h⟩⟩
theorem kg_J10_37 : JLG RJ10 37 11 1 := ⟨"java/util/ArrayList", (RJ4, TJ4, 3), rfl, in_J4, by decide, Or.inl q189, Or.inl rfl⟩
theorem kp_J10_37 : JLP RJ10 37 11 1 (.array (.object "java/lang/Object")) false := ⟨kg_J10_37, fun r hr => by obtain rfl : (RJ4, TJ4, 3) = r := Option.some.inj hr; exact ⟨⟨tyJ4, tyJ4_ok, rfl⟩, nmJ4, rfl, fun h => by cases h⟩⟩
theorem kg_J10_28 : JLG RJ10 28 11 2 := ⟨"java/util/ArrayList", (RJ4, TJ4, 3), rfl, in_J4, by decide, Or.inr ⟨"java/util/ArrayList", q190⟩, Or.inl rfl⟩
theorem kp_J10_28 : JLP RJ10 28 11 2 .int false := ⟨kg_J10_28, fun r hr => by obtain rfl : (RJ4, TJ4, 3) = r := Option.some.inj hr; exact ⟨⟨tyJ4, tyJ4_ok, rfl⟩, nmJ4, rfl, fun h => by cases h⟩⟩
theorem kg_J4_48 : JLG RJ4 48 11 2 := ⟨"java/util/ArrayList", (RJ4, TJ4, 3), rfl, in_J4, by decide, Or.inl q191, Or.inl rfl⟩
theorem kp_J4_48 : JLP RJ4 48 11 2 .int false := ⟨kg_J4_48, fun r hr => by obtain rfl : (RJ4, TJ4, 3) = r := Option.some.inj hr; exact ⟨⟨tyJ4, tyJ4_ok, rfl⟩, nmJ4, rfl, fun h => by cases h⟩⟩
theorem kg_J3_7 : JLG RJ3 7 11 0 := ⟨"java/util/AbstractList", (RJ4, TJ4, 3), rfl, in_J4, by decide, Or.inl q192, Or.inl rfl⟩
theorem kp_J3_7 : JLP RJ3 7 11 0 .int false := ⟨kg_J3_7, fun r hr => by obtain rfl : (RJ4, TJ4, 3) = r := Option.some.inj hr; exact ⟨⟨tyJ4, tyJ4_ok, rfl⟩, nmJ4, rfl, fun h => by cases h⟩⟩
theorem kg_J10_17 : JLG RJ10 17 11 0 := ⟨"java/util/ArrayList", (RJ4, TJ4, 3), rfl, in_J4, by decide, Or.inl q193, Or.inr q194⟩
theorem kp_J10_17 : JLP RJ10 17 11 0 .int false := ⟨kg_J10_17, fun r hr => by obtain rfl : (RJ4, TJ4, 3) = r := Option.some.inj hr; exact ⟨⟨tyJ4, tyJ4_ok, rfl⟩, nmJ4, rfl, fun h => by cases h⟩⟩
theorem kg_J4_63 : JLG RJ4 63 11 0 := ⟨"java/util/ArrayList", (RJ4, TJ4, 3), rfl, in_J4, by decide, Or.inl q195, Or.inr q194⟩
theorem kp_J4_63 : JLP RJ4 63 11 0 .int false := ⟨kg_J4_63, fun r hr => by obtain rfl : (RJ4, TJ4, 3) = r := Option.some.inj hr; exact ⟨⟨tyJ4, tyJ4_ok, rfl⟩, nmJ4, rfl, fun h => by cases h⟩⟩
theorem kg_X2_12 : JLG RX2 12 1 0 := ⟨"CloudInterviews$Board", (RX2, TX2, 6), rfl, in_X2, by decide, Or.inl q203, Or.inl rfl⟩
theorem kp_X2_12 : JLP RX2 12 1 0 (.object "java/util/HashMap") true := ⟨kg_X2_12, fun r hr => by obtain rfl : (RX2, TX2, 6) = r := Option.some.inj hr; exact ⟨⟨tyX2, tyX2_ok, rfl⟩, nmX2, rfl, fun _ => rfl⟩⟩
theorem kg_X2_21 : JLG RX2 21 1 1 := ⟨"CloudInterviews$Board", (RX2, TX2, 6), rfl, in_X2, by decide, Or.inl q204, Or.inl rfl⟩
theorem kp_X2_21 : JLP RX2 21 1 1 (.object "java/util/ArrayList") true := ⟨kg_X2_21, fun r hr => by obtain rfl : (RX2, TX2, 6) = r := Option.some.inj hr; exact ⟨⟨tyX2, tyX2_ok, rfl⟩, nmX2, rfl, fun _ => rfl⟩⟩
theorem kg_X1_104 : JLG RX1 104 1 1 := ⟨"CloudInterviews$Board", (RX2, TX2, 6), rfl, in_X2, by decide, Or.inr ⟨"CloudInterviews", q205⟩, Or.inl rfl⟩
theorem kg_X2_25 : JLG RX2 25 1 2 := ⟨"CloudInterviews$Board", (RX2, TX2, 6), rfl, in_X2, by decide, Or.inl q206, Or.inl rfl⟩
theorem kp_X2_25 : JLP RX2 25 1 2 (.object "java/util/HashMap") true := ⟨kg_X2_25, fun r hr => by obtain rfl : (RX2, TX2, 6) = r := Option.some.inj hr; exact ⟨⟨tyX2, tyX2_ok, rfl⟩, nmX2, rfl, fun _ => rfl⟩⟩
theorem kg_X2_28 : JLG RX2 28 1 3 := ⟨"CloudInterviews$Board", (RX2, TX2, 6), rfl, in_X2, by decide, Or.inl q207, Or.inl rfl⟩
theorem kp_X2_28 : JLP RX2 28 1 3 (.object "java/util/ArrayList") true := ⟨kg_X2_28, fun r hr => by obtain rfl : (RX2, TX2, 6) = r := Option.some.inj hr; exact ⟨⟨tyX2, tyX2_ok, rfl⟩, nmX2, rfl, fun _ => rfl⟩⟩
theorem kg_X1_186 : JLG RX1 186 1 3 := ⟨"CloudInterviews$Board", (RX2, TX2, 6), rfl, in_X2, by decide, Or.inr ⟨"CloudInterviews", q208⟩, Or.inl rfl⟩
theorem kg_X2_32 : JLG RX2 32 1 4 := ⟨"CloudInterviews$Board", (RX2, TX2, 6), rfl, in_X2, by decide, Or.inl q209, Or.inl rfl⟩
theorem kp_X2_32 : JLP RX2 32 1 4 .int false := ⟨kg_X2_32, fun r hr => by obtain rfl : (RX2, TX2, 6) = r := Option.some.inj hr; exact ⟨⟨tyX2, tyX2_ok, rfl⟩, nmX2, rfl, fun h => by cases h⟩⟩
theorem kg_X2_36 : JLG RX2 36 1 5 := ⟨"CloudInterviews$Board", (RX2, TX2, 6), rfl, in_X2, by decide, Or.inl q210, Or.inl rfl⟩
theorem kp_X2_36 : JLP RX2 36 1 5 .int false := ⟨kg_X2_36, fun r hr => by obtain rfl : (RX2, TX2, 6) = r := Option.some.inj hr; exact ⟨⟨tyX2, tyX2_ok, rfl⟩, nmX2, rfl, fun h => by cases h⟩⟩
theorem kg_X1_251 : JLG RX1 251 1 5 := ⟨"CloudInterviews$Board", (RX2, TX2, 6), rfl, in_X2, by decide, Or.inr ⟨"CloudInterviews", q211⟩, Or.inl rfl⟩
theorem kp_X1_251 : JLP RX1 251 1 5 .int false := ⟨kg_X1_251, fun r hr => by obtain rfl : (RX2, TX2, 6) = r := Option.some.inj hr; exact ⟨⟨tyX2, tyX2_ok, rfl⟩, nmX2, rfl, fun h => by cases h⟩⟩
theorem kn_X1_38 : JLN RX1 38 13 [.null, .int 0, .int 0] := ⟨(RJ5, TJ5, 3), rfl, in_J5, ⟨tyJ5, tyJ5_ok, fun j hj => by have hj : j < 3 := hj; rcases (show j = 0 ∨ j = 1 ∨ j = 2 by omega) with rfl | rfl | rfl <;> rfl⟩, q225, q226, q88⟩
theorem kc_X1_38 : JLC RX1 38 13 := ⟨"java/util/ArrayDeque", (RJ5, TJ5, 3), rfl, q225, Or.inl rfl⟩
theorem ki_X1_40 : JI RX1 40 yJ5_init cJ5_init 1 0 := ⟨q227, q228, q88, q229, rfl, ⟨by decide +kernel, by decide +kernel, by decide +kernel⟩, by decide⟩
theorem ki_J5_42 : JI RJ5 42 yJ2_init cJ2_init 1 0 := ⟨q230, q183, q85, q184, rfl, ⟨by decide +kernel, by decide +kernel, by decide +kernel⟩, by decide⟩
theorem kr_J5_47 : JLR RJ5 47 6 "java/lang/Object" := ⟨by decide, by decide, rfl, q231, q232⟩
theorem kg_J5_3 : JLG RJ5 3 13 0 := ⟨"java/util/ArrayDeque", (RJ5, TJ5, 3), rfl, in_J5, by decide, Or.inl q233, Or.inl rfl⟩
theorem kp_J5_3 : JLP RJ5 3 13 0 (.array (.object "java/lang/Object")) false := ⟨kg_J5_3, fun r hr => by obtain rfl : (RJ5, TJ5, 3) = r := Option.some.inj hr; exact ⟨⟨tyJ5, tyJ5_ok, rfl⟩, nmJ5, rfl, fun h => by cases h⟩⟩
theorem kg_J5_24 : JLG RJ5 24 13 1 := ⟨"java/util/ArrayDeque", (RJ5, TJ5, 3), rfl, in_J5, by decide, Or.inl q234, Or.inl rfl⟩
theorem kp_J5_24 : JLP RJ5 24 13 1 .int false := ⟨kg_J5_24, fun r hr => by obtain rfl : (RJ5, TJ5, 3) = r := Option.some.inj hr; exact ⟨⟨tyJ5, tyJ5_ok, rfl⟩, nmJ5, rfl, fun h => by cases h⟩⟩
theorem kg_J5_20 : JLG RJ5 20 13 2 := ⟨"java/util/ArrayDeque", (RJ5, TJ5, 3), rfl, in_J5, by decide, Or.inl q235, Or.inl rfl⟩
theorem kp_J5_20 : JLP RJ5 20 13 2 .int false := ⟨kg_J5_20, fun r hr => by obtain rfl : (RJ5, TJ5, 3) = r := Option.some.inj hr; exact ⟨⟨tyJ5, tyJ5_ok, rfl⟩, nmJ5, rfl, fun h => by cases h⟩⟩
theorem kn_X1_45 : JLN RX1 45 14 [.null, .int 0, .int 0, .int 0] := ⟨(RJ7, TJ7, 4), rfl, in_J7, ⟨tyJ7, tyJ7_ok, fun j hj => by have hj : j < 4 := hj; rcases (show j = 0 ∨ j = 1 ∨ j = 2 ∨ j = 3 by omega) with rfl | rfl | rfl | rfl <;> rfl⟩, q243, q244, q90⟩
theorem kc_X1_45 : JLC RX1 45 14 := ⟨"java/lang/StringBuilder", (RJ7, TJ7, 4), rfl, q243, Or.inl rfl⟩
theorem ki_X1_47 : JI RX1 47 yJ7_init cJ7_init 1 0 := ⟨q245, q246, q90, q247, rfl, ⟨by decide +kernel, by decide +kernel, by decide +kernel⟩, by decide⟩
theorem ki_J7_1 : JI RJ7 1 yJ6_init cJ6_init 2 1 := ⟨q248, q249, q89, q250, rfl, ⟨by decide +kernel, by decide +kernel, by decide +kernel⟩, by decide⟩
theorem ko_J6_3 : JLO RJ6 3 := ⟨q251, q134, q135⟩
theorem kst_J6_18 : JLS RJ6 18 "java/lang/String" "COMPACT_STRINGS" "Z" := ⟨"java/lang/String", q252, Or.inl rfl⟩
theorem ks_J6_26 : JS RJ6 26 yJ9_newBytesFor cJ9_newBytesFor 1 (some (.array .byte)) 1 := ⟨q254, q255, q92, q256, ⟨by decide +kernel, by decide +kernel, by decide +kernel⟩, by decide⟩
theorem ks_J9_11 : JS RJ9 11 yJ9_newBytesLength cJ9_newBytesLength 1 (some .int) 1 := ⟨q257, q258, q92, q259, ⟨by decide +kernel, by decide +kernel, by decide +kernel⟩, by decide⟩
theorem kg_J6_15 : JLG RJ6 15 14 0 := ⟨"java/lang/AbstractStringBuilder", (RJ7, TJ7, 4), rfl, in_J7, by decide, Or.inl q261, Or.inl rfl⟩
theorem kp_J6_15 : JLP RJ6 15 14 0 (.array .byte) false := ⟨kg_J6_15, fun r hr => by obtain rfl : (RJ7, TJ7, 4) = r := Option.some.inj hr; exact ⟨⟨tyJ7, tyJ7_ok, rfl⟩, nmJ7, rfl, fun h => by cases h⟩⟩
theorem kg_J6_22 : JLG RJ6 22 14 1 := ⟨"java/lang/AbstractStringBuilder", (RJ7, TJ7, 4), rfl, in_J7, by decide, Or.inl q262, Or.inl rfl⟩
theorem kp_J6_22 : JLP RJ6 22 14 1 .byte false := ⟨kg_J6_22, fun r hr => by obtain rfl : (RJ7, TJ7, 4) = r := Option.some.inj hr; exact ⟨⟨tyJ7, tyJ7_ok, rfl⟩, nmJ7, rfl, fun h => by cases h⟩⟩
theorem kg_J8_1048 : JLG RJ8 1048 14 2 := ⟨"java/lang/AbstractStringBuilder", (RJ7, TJ7, 4), rfl, in_J7, by decide, Or.inl q263, Or.inl rfl⟩
theorem kp_J8_1048 : JLP RJ8 1048 14 2 .boolean false := ⟨kg_J8_1048, fun r hr => by obtain rfl : (RJ7, TJ7, 4) = r := Option.some.inj hr; exact ⟨⟨tyJ7, tyJ7_ok, rfl⟩, nmJ7, rfl, fun h => by cases h⟩⟩
theorem kg_J6_79 : JLG RJ6 79 14 3 := ⟨"java/lang/AbstractStringBuilder", (RJ7, TJ7, 4), rfl, in_J7, by decide, Or.inl q264, Or.inl rfl⟩
theorem kp_J6_79 : JLP RJ6 79 14 3 .int false := ⟨kg_J6_79, fun r hr => by obtain rfl : (RJ7, TJ7, 4) = r := Option.some.inj hr; exact ⟨⟨tyJ7, tyJ7_ok, rfl⟩, nmJ7, rfl, fun h => by cases h⟩⟩
theorem kg_X1_34 : JLG RX1 34 0 0 := ⟨"CloudInterviews", (RX1, TX1, 7), rfl, in_X1, by decide, Or.inl q276, Or.inl rfl⟩
theorem kp_X1_34 : JLP RX1 34 0 0 (.object "CloudInterviews$Board") false := ⟨kg_X1_34, fun r hr => by obtain rfl : (RX1, TX1, 7) = r := Option.some.inj hr; exact ⟨⟨tyX1, tyX1_ok, rfl⟩, nmX1, rfl, fun h => by cases h⟩⟩
theorem kg_X1_41 : JLG RX1 41 0 1 := ⟨"CloudInterviews", (RX1, TX1, 7), rfl, in_X1, by decide, Or.inl q277, Or.inl rfl⟩
theorem kp_X1_41 : JLP RX1 41 0 1 (.object "java/util/ArrayDeque") true := ⟨kg_X1_41, fun r hr => by obtain rfl : (RX1, TX1, 7) = r := Option.some.inj hr; exact ⟨⟨tyX1, tyX1_ok, rfl⟩, nmX1, rfl, fun _ => rfl⟩⟩
theorem kg_X1_332 : JLG RX1 332 0 2 := ⟨"CloudInterviews", (RX1, TX1, 7), rfl, in_X1, by decide, Or.inl q278, Or.inl rfl⟩
theorem kp_X1_332 : JLP RX1 332 0 2 (.object "CloudInterviews$Board") false := ⟨kg_X1_332, fun r hr => by obtain rfl : (RX1, TX1, 7) = r := Option.some.inj hr; exact ⟨⟨tyX1, tyX1_ok, rfl⟩, nmX1, rfl, fun h => by cases h⟩⟩
theorem kg_X1_48 : JLG RX1 48 0 3 := ⟨"CloudInterviews", (RX1, TX1, 7), rfl, in_X1, by decide, Or.inl q279, Or.inl rfl⟩
theorem kp_X1_48 : JLP RX1 48 0 3 (.object "java/lang/StringBuilder") false := ⟨kg_X1_48, fun r hr => by obtain rfl : (RX1, TX1, 7) = r := Option.some.inj hr; exact ⟨⟨tyX1, tyX1_ok, rfl⟩, nmX1, rfl, fun h => by cases h⟩⟩
theorem kg_X1_54 : JLG RX1 54 0 4 := ⟨"CloudInterviews", (RX1, TX1, 7), rfl, in_X1, by decide, Or.inl q280, Or.inl rfl⟩
theorem kp_X1_54 : JLP RX1 54 0 4 (.object "java/lang/String") false := ⟨kg_X1_54, fun r hr => by obtain rfl : (RX1, TX1, 7) = r := Option.some.inj hr; exact ⟨⟨tyX1, tyX1_ok, rfl⟩, nmX1, rfl, fun h => by cases h⟩⟩
theorem kg_X1_58 : JLG RX1 58 0 5 := ⟨"CloudInterviews", (RX1, TX1, 7), rfl, in_X1, by decide, Or.inl q281, Or.inl rfl⟩
theorem kp_X1_58 : JLP RX1 58 0 5 .int false := ⟨kg_X1_58, fun r hr => by obtain rfl : (RX1, TX1, 7) = r := Option.some.inj hr; exact ⟨⟨tyX1, tyX1_ok, rfl⟩, nmX1, rfl, fun h => by cases h⟩⟩
theorem kg_X1_62 : JLG RX1 62 0 6 := ⟨"CloudInterviews", (RX1, TX1, 7), rfl, in_X1, by decide, Or.inl q282, Or.inl rfl⟩
theorem kp_X1_62 : JLP RX1 62 0 6 .int false := ⟨kg_X1_62, fun r hr => by obtain rfl : (RX1, TX1, 7) = r := Option.some.inj hr; exact ⟨⟨tyX1, tyX1_ok, rfl⟩, nmX1, rfl, fun h => by cases h⟩⟩
theorem kv_X0_181 : JV RX0 181 0 yX1_applicantCount cX1_applicantCount 1 (some .int) 0 := ⟨(RX1, TX1, 7), rfl, rfl, q298, q299, q300, q81, q301, ⟨by decide +kernel, by decide +kernel, by decide +kernel⟩, by decide⟩
theorem kv_X1_108 : JV RX1 108 11 yJ4_size cJ4_size 1 (some .int) 0 := ⟨(RJ4, TJ4, 3), rfl, rfl, q302, q303, q304, q87, q305, ⟨by decide +kernel, by decide +kernel, by decide +kernel⟩, by decide⟩
theorem kv_X0_185 : JV RX0 185 0 yX1_waitingCount cX1_waitingCount 1 (some .int) 0 := ⟨(RX1, TX1, 7), rfl, rfl, q306, q307, q308, q81, q309, ⟨by decide +kernel, by decide +kernel, by decide +kernel⟩, by decide⟩
theorem kv_X1_111 : JV RX1 111 1 yX2_waiting cX2_waiting 4 (some .int) 0 := ⟨(RX2, TX2, 6), rfl, rfl, q310, q311, q312, q82, q313, ⟨by decide +kernel, by decide +kernel, by decide +kernel⟩, by decide⟩
theorem kv_X2_39 : JV RX2 39 11 yJ4_iterator cJ4_iterator 1 (some (.object "java/util/Iterator")) 0 := ⟨(RJ4, TJ4, 3), rfl, rfl, q314, q315, q316, q87, q317, ⟨by decide +kernel, by decide +kernel, by decide +kernel⟩, by decide⟩
theorem kn_J4_267 : JLN RJ4 267 12 [.int 0, .int 0, .int 0, .null] := ⟨(RJ10, TJ10, 4), rfl, in_J10, ⟨tyJ10, tyJ10_ok, fun j hj => by have hj : j < 4 := hj; rcases (show j = 0 ∨ j = 1 ∨ j = 2 ∨ j = 3 by omega) with rfl | rfl | rfl | rfl <;> rfl⟩, q318, q319, q94⟩
theorem kc_J4_267 : JLC RJ4 267 12 := ⟨"java/util/ArrayList$Itr", (RJ10, TJ10, 4), rfl, q318, Or.inl rfl⟩
theorem ki_J4_269 : JI RJ4 269 yJ10_init cJ10_init 2 1 := ⟨q320, q321, q94, q322, rfl, ⟨by decide +kernel, by decide +kernel, by decide +kernel⟩, by decide⟩
theorem ko_J10_7 : JLO RJ10 7 := ⟨q323, q134, q135⟩
theorem kg_J10_25 : JLG RJ10 25 12 0 := ⟨"java/util/ArrayList$Itr", (RJ10, TJ10, 4), rfl, in_J10, by decide, Or.inl q324, Or.inl rfl⟩
theorem kp_J10_25 : JLP RJ10 25 12 0 .int false := ⟨kg_J10_25, fun r hr => by obtain rfl : (RJ10, TJ10, 4) = r := Option.some.inj hr; exact ⟨⟨tyJ10, tyJ10_ok, rfl⟩, nmJ10, rfl, fun h => by cases h⟩⟩
theorem kg_J10_13 : JLG RJ10 13 12 1 := ⟨"java/util/ArrayList$Itr", (RJ10, TJ10, 4), rfl, in_J10, by decide, Or.inl q325, Or.inl rfl⟩
theorem kp_J10_13 : JLP RJ10 13 12 1 .int false := ⟨kg_J10_13, fun r hr => by obtain rfl : (RJ10, TJ10, 4) = r := Option.some.inj hr; exact ⟨⟨tyJ10, tyJ10_ok, rfl⟩, nmJ10, rfl, fun h => by cases h⟩⟩
theorem kg_J10_22 : JLG RJ10 22 12 2 := ⟨"java/util/ArrayList$Itr", (RJ10, TJ10, 4), rfl, in_J10, by decide, Or.inl q326, Or.inl rfl⟩
theorem kp_J10_22 : JLP RJ10 22 12 2 .int false := ⟨kg_J10_22, fun r hr => by obtain rfl : (RJ10, TJ10, 4) = r := Option.some.inj hr; exact ⟨⟨tyJ10, tyJ10_ok, rfl⟩, nmJ10, rfl, fun h => by cases h⟩⟩
theorem kg_J10_1 : JLG RJ10 1 12 3 := ⟨"java/util/ArrayList$Itr", (RJ10, TJ10, 4), rfl, in_J10, by decide, Or.inl q327, Or.inl rfl⟩
theorem kp_J10_1 : JLP RJ10 1 12 3 (.object "java/util/ArrayList") true := ⟨kg_J10_1, fun r hr => by obtain rfl : (RJ10, TJ10, 4) = r := Option.some.inj hr; exact ⟨⟨tyJ10, tyJ10_ok, rfl⟩, nmJ10, rfl, fun _ => rfl⟩⟩
theorem kf_X2_43_12 : JF RX2 43 12 ⟨"java/util/Iterator", "hasNext", "()Z"⟩ yJ10_hasNext cJ10_hasNext 1 (some .boolean) 0 := ⟨(RJ10, TJ10, 4), rfl, q338, q342, q344, q94, q346, ⟨q340, q339, q345, q343, q341⟩, ⟨by decide +kernel, by decide +kernel, by decide +kernel⟩, by decide⟩
theorem kf_X2_49_12 : JF RX2 49 12 ⟨"java/util/Iterator", "next", "()Ljava/lang/Object;"⟩ yJ10_next cJ10_next 3 (some (.object "java/lang/Object")) 0 := ⟨(RJ10, TJ10, 4), rfl, q348, q351, q353, q94, q355, ⟨q350, q349, q354, q352, q341⟩, ⟨by decide +kernel, by decide +kernel, by decide +kernel⟩, by decide⟩
theorem kv_J10_31 : JV RJ10 31 12 yJ10_checkForComodification cJ10_checkForComodification 1 none 0 := ⟨(RJ10, TJ10, 4), rfl, rfl, q356, q357, q358, q94, q359, ⟨by decide +kernel, by decide +kernel, by decide +kernel⟩, by decide⟩
theorem kg_J11_198 : JLG RJ11 198 7 4 := ⟨"java/lang/Throwable", (RX9, TX9, 7), rfl, in_X9, by decide, Or.inl q381, Or.inl rfl⟩
theorem kp_J11_198 : JLP RJ11 198 7 4 (.object "java/lang/Object") false := ⟨kg_J11_198, fun r hr => by obtain rfl : (RX9, TX9, 7) = r := Option.some.inj hr; exact ⟨⟨tyX9, tyX9_ok, rfl⟩, nmX9, rfl, fun h => by cases h⟩⟩
theorem ko_J11_1 : JLO RJ11 1 := ⟨q385, q134, q135⟩
theorem kst_J11_13 : JLS RJ11 13 "java/lang/Throwable" "UNASSIGNED_STACK" "[Ljava/lang/StackTraceElement;" := ⟨"java/lang/Throwable", q386, Or.inl rfl⟩
theorem kst_J11_20 : JLS RJ11 20 "java/lang/Throwable" "SUPPRESSED_SENTINEL" "Ljava/util/List;" := ⟨"java/lang/Throwable", q388, Or.inl rfl⟩
theorem ki_J12_1 : JI RJ12 1 yJ11_init cJ11_init 1 0 := ⟨q415, q383, q95, q384, rfl, ⟨by decide +kernel, by decide +kernel, by decide +kernel⟩, by decide⟩
theorem kg_J11_31 : JLG RJ11 31 7 3 := ⟨"java/lang/Throwable", (RX9, TX9, 7), rfl, in_X9, by decide, Or.inl q417, Or.inl rfl⟩
theorem kp_J11_31 : JLP RJ11 31 7 3 (.object "java/lang/String") false := ⟨kg_J11_31, fun r hr => by obtain rfl : (RX9, TX9, 7) = r := Option.some.inj hr; exact ⟨⟨tyX9, tyX9_ok, rfl⟩, nmX9, rfl, fun h => by cases h⟩⟩
theorem kg_J11_7 : JLG RJ11 7 7 0 := ⟨"java/lang/Throwable", (RX9, TX9, 7), rfl, in_X9, by decide, Or.inl q418, Or.inl rfl⟩
theorem kp_J11_7 : JLP RJ11 7 7 0 (.object "java/lang/Throwable") false := ⟨kg_J11_7, fun r hr => by obtain rfl : (RX9, TX9, 7) = r := Option.some.inj hr; exact ⟨⟨tyX9, tyX9_ok, rfl⟩, nmX9, rfl, fun h => by cases h⟩⟩
theorem kg_J11_17 : JLG RJ11 17 7 1 := ⟨"java/lang/Throwable", (RX9, TX9, 7), rfl, in_X9, by decide, Or.inl q419, Or.inl rfl⟩
theorem kp_J11_17 : JLP RJ11 17 7 1 (.array (.object "java/lang/StackTraceElement")) false := ⟨kg_J11_17, fun r hr => by obtain rfl : (RX9, TX9, 7) = r := Option.some.inj hr; exact ⟨⟨tyX9, tyX9_ok, rfl⟩, nmX9, rfl, fun h => by cases h⟩⟩
theorem kg_J11_24 : JLG RJ11 24 7 2 := ⟨"java/lang/Throwable", (RX9, TX9, 7), rfl, in_X9, by decide, Or.inl q420, Or.inl rfl⟩
theorem kp_J11_24 : JLP RJ11 24 7 2 (.object "java/util/List") false := ⟨kg_J11_24, fun r hr => by obtain rfl : (RX9, TX9, 7) = r := Option.some.inj hr; exact ⟨⟨tyX9, tyX9_ok, rfl⟩, nmX9, rfl, fun h => by cases h⟩⟩
theorem kn_X2_63 : JLN RX2 63 2 [.int 0, .int 0, .int 0, .int 0, .int 0, .null] := ⟨(RX5, TX5, 6), rfl, in_X5, ⟨tyX5, tyX5_ok, fun j hj => by have hj : j < 6 := hj; rcases (show j = 0 ∨ j = 1 ∨ j = 2 ∨ j = 3 ∨ j = 4 ∨ j = 5 by omega) with rfl | rfl | rfl | rfl | rfl | rfl <;> rfl⟩, q429, q580, q104⟩
theorem kc_X2_63 : JLC RX2 63 2 := ⟨"CloudInterviews$Applicant", (RX5, TX5, 6), rfl, q429, Or.inl rfl⟩
theorem kr_X2_63 : JLR RX2 63 7 "CloudInterviews$Applicant" := ⟨by decide, by decide, rfl, q429, q1672⟩
theorem kv_X2_72 : JV RX2 72 2 yX5_isHired cX5_isHired 1 (some .boolean) 0 := ⟨(RX5, TX5, 6), rfl, rfl, q430, q431, q432, q104, q433, ⟨by decide +kernel, by decide +kernel, by decide +kernel⟩, by decide⟩
theorem kv_X0_239 : JV RX0 239 0 yX1_postCount cX1_postCount 1 (some .int) 0 := ⟨(RX1, TX1, 7), rfl, rfl, q434, q435, q436, q81, q437, ⟨by decide +kernel, by decide +kernel, by decide +kernel⟩, by decide⟩
theorem kv_X0_243 : JV RX0 243 0 yX1_vacantCount cX1_vacantCount 1 (some .int) 0 := ⟨(RX1, TX1, 7), rfl, rfl, q438, q439, q440, q81, q441, ⟨by decide +kernel, by decide +kernel, by decide +kernel⟩, by decide⟩
theorem kv_X1_189 : JV RX1 189 1 yX2_vacant cX2_vacant 4 (some .int) 0 := ⟨(RX2, TX2, 6), rfl, rfl, q442, q443, q444, q82, q445, ⟨by decide +kernel, by decide +kernel, by decide +kernel⟩, by decide⟩
theorem kn_X2_53 : JLN RX2 53 3 [.int 0, .int 0, .int 0, .int 0, .null] := ⟨(RX4, TX4, 5), rfl, in_X4, ⟨tyX4, tyX4_ok, fun j hj => by have hj : j < 5 := hj; rcases (show j = 0 ∨ j = 1 ∨ j = 2 ∨ j = 3 ∨ j = 4 by omega) with rfl | rfl | rfl | rfl | rfl <;> rfl⟩, q446, q471, q99⟩
theorem kc_X2_53 : JLC RX2 53 3 := ⟨"CloudInterviews$Post", (RX4, TX4, 5), rfl, q446, Or.inl rfl⟩
theorem kv_X2_126 : JV RX2 126 3 yX4_isVacant cX4_isVacant 1 (some .boolean) 0 := ⟨(RX4, TX4, 5), rfl, rfl, q447, q448, q449, q99, q450, ⟨by decide +kernel, by decide +kernel, by decide +kernel⟩, by decide⟩
theorem kv_X0_283 : JV RX0 283 0 yX1_match cX1_match 1 (some .int) 0 := ⟨(RX1, TX1, 7), rfl, rfl, q451, q452, q453, q81, q454, ⟨by decide +kernel, by decide +kernel, by decide +kernel⟩, by decide⟩
theorem kv_X1_96 : JV RX1 96 0 yX1_change cX1_change 5 (some .int) 2 := ⟨(RX1, TX1, 7), rfl, rfl, q456, q458, qs1, q81, q459, ⟨by decide +kernel, by decide +kernel, by decide +kernel⟩, by decide⟩
theorem kv_X1_77 : JV RX1 77 1 yX2_copy cX2_copy 6 (some (.object "CloudInterviews$Board")) 0 := ⟨(RX2, TX2, 6), rfl, rfl, q460, q461, q462, q82, q463, ⟨by decide +kernel, by decide +kernel, by decide +kernel⟩, by decide⟩
theorem kn_X2_13 : JLN RX2 13 1 [.null, .null, .null, .null, .int 0, .int 0] := ⟨(RX2, TX2, 6), rfl, in_X2, ⟨tyX2, tyX2_ok, fun j hj => by have hj : j < 6 := hj; rcases (show j = 0 ∨ j = 1 ∨ j = 2 ∨ j = 3 ∨ j = 4 ∨ j = 5 by omega) with rfl | rfl | rfl | rfl | rfl | rfl <;> rfl⟩, q464, q137, q82⟩
theorem kc_X2_13 : JLC RX2 13 1 := ⟨"CloudInterviews$Board", (RX2, TX2, 6), rfl, q464, Or.inl rfl⟩
theorem ki_X2_31 : JI RX2 31 yX2_init cX2_init 1 0 := ⟨q465, q139, q82, q140, rfl, ⟨by decide +kernel, by decide +kernel, by decide +kernel⟩, by decide⟩
theorem kv_X2_55 : JV RX2 55 3 yX4_copy cX4_copy 1 (some (.object "CloudInterviews$Post")) 0 := ⟨(RX4, TX4, 5), rfl, rfl, q466, q467, q468, q99, q469, ⟨by decide +kernel, by decide +kernel, by decide +kernel⟩, by decide⟩
theorem kn_X4_10 : JLN RX4 10 3 [.int 0, .int 0, .int 0, .int 0, .null] := ⟨(RX4, TX4, 5), rfl, in_X4, ⟨tyX4, tyX4_ok, fun j hj => by have hj : j < 5 := hj; rcases (show j = 0 ∨ j = 1 ∨ j = 2 ∨ j = 3 ∨ j = 4 by omega) with rfl | rfl | rfl | rfl | rfl <;> rfl⟩, q470, q471, q99⟩
theorem kc_X4_10 : JLC RX4 10 3 := ⟨"CloudInterviews$Post", (RX4, TX4, 5), rfl, q470, Or.inl rfl⟩
theorem ki_X4_38 : JI RX4 38 yX4_init cX4_init 5 4 := ⟨q472, q473, q99, q474, rfl, ⟨by decide +kernel, by decide +kernel, by decide +kernel⟩, by decide⟩
theorem ko_X4_3 : JLO RX4 3 := ⟨q475, q134, q135⟩
theorem kg_X4_9 : JLG RX4 9 3 0 := ⟨"CloudInterviews$Post", (RX4, TX4, 5), rfl, in_X4, by decide, Or.inl q476, Or.inl rfl⟩
theorem kp_X4_9 : JLP RX4 9 3 0 .char true := ⟨kg_X4_9, fun r hr => by obtain rfl : (RX4, TX4, 5) = r := Option.some.inj hr; exact ⟨⟨tyX4, tyX4_ok, rfl⟩, nmX4, rfl, fun _ => rfl⟩⟩
theorem kg_X1_195 : JLG RX1 195 3 0 := ⟨"CloudInterviews$Post", (RX4, TX4, 5), rfl, in_X4, by decide, Or.inr ⟨"CloudInterviews", q477⟩, Or.inl rfl⟩
theorem kg_X4_15 : JLG RX4 15 3 1 := ⟨"CloudInterviews$Post", (RX4, TX4, 5), rfl, in_X4, by decide, Or.inl q478, Or.inl rfl⟩
theorem kp_X4_15 : JLP RX4 15 3 1 .int true := ⟨kg_X4_15, fun r hr => by obtain rfl : (RX4, TX4, 5) = r := Option.some.inj hr; exact ⟨⟨tyX4, tyX4_ok, rfl⟩, nmX4, rfl, fun _ => rfl⟩⟩
theorem kg_X1_198 : JLG RX1 198 3 1 := ⟨"CloudInterviews$Post", (RX4, TX4, 5), rfl, in_X4, by decide, Or.inr ⟨"CloudInterviews", q479⟩, Or.inl rfl⟩
theorem kg_X4_19 : JLG RX4 19 3 2 := ⟨"CloudInterviews$Post", (RX4, TX4, 5), rfl, in_X4, by decide, Or.inl q480, Or.inl rfl⟩
theorem kp_X4_19 : JLP RX4 19 3 2 .int true := ⟨kg_X4_19, fun r hr => by obtain rfl : (RX4, TX4, 5) = r := Option.some.inj hr; exact ⟨⟨tyX4, tyX4_ok, rfl⟩, nmX4, rfl, fun _ => rfl⟩⟩
theorem kg_X1_201 : JLG RX1 201 3 2 := ⟨"CloudInterviews$Post", (RX4, TX4, 5), rfl, in_X4, by decide, Or.inr ⟨"CloudInterviews", q481⟩, Or.inl rfl⟩
theorem kg_X2_272 : JLG RX2 272 3 2 := ⟨"CloudInterviews$Post", (RX4, TX4, 5), rfl, in_X4, by decide, Or.inr ⟨"CloudInterviews", q482⟩, Or.inl rfl⟩
theorem kg_X4_22 : JLG RX4 22 3 3 := ⟨"CloudInterviews$Post", (RX4, TX4, 5), rfl, in_X4, by decide, Or.inl q483, Or.inl rfl⟩
theorem kp_X4_22 : JLP RX4 22 3 3 .int true := ⟨kg_X4_22, fun r hr => by obtain rfl : (RX4, TX4, 5) = r := Option.some.inj hr; exact ⟨⟨tyX4, tyX4_ok, rfl⟩, nmX4, rfl, fun _ => rfl⟩⟩
theorem kg_X2_168 : JLG RX2 168 3 3 := ⟨"CloudInterviews$Post", (RX4, TX4, 5), rfl, in_X4, by decide, Or.inr ⟨"CloudInterviews", q484⟩, Or.inl rfl⟩
theorem kg_X1_204 : JLG RX1 204 3 3 := ⟨"CloudInterviews$Post", (RX4, TX4, 5), rfl, in_X4, by decide, Or.inr ⟨"CloudInterviews", q485⟩, Or.inl rfl⟩
theorem kg_X4_25 : JLG RX4 25 3 4 := ⟨"CloudInterviews$Post", (RX4, TX4, 5), rfl, in_X4, by decide, Or.inl q486, Or.inl rfl⟩
theorem kp_X4_25 : JLP RX4 25 3 4 (.object "CloudInterviews$Applicant") false := ⟨kg_X4_25, fun r hr => by obtain rfl : (RX4, TX4, 5) = r := Option.some.inj hr; exact ⟨⟨tyX4, tyX4_ok, rfl⟩, nmX4, rfl, fun h => by cases h⟩⟩
theorem kg_X2_256 : JLG RX2 256 3 4 := ⟨"CloudInterviews$Post", (RX4, TX4, 5), rfl, in_X4, by decide, Or.inr ⟨"CloudInterviews", q487⟩, Or.inl rfl⟩
theorem kp_X2_256 : JLP RX2 256 3 4 (.object "CloudInterviews$Applicant") false := ⟨kg_X2_256, fun r hr => by obtain rfl : (RX4, TX4, 5) = r := Option.some.inj hr; exact ⟨⟨tyX4, tyX4_ok, rfl⟩, nmX4, rfl, fun h => by cases h⟩⟩
theorem kg_X1_210 : JLG RX1 210 3 4 := ⟨"CloudInterviews$Post", (RX4, TX4, 5), rfl, in_X4, by decide, Or.inr ⟨"CloudInterviews", q488⟩, Or.inl rfl⟩
theorem kp_X1_210 : JLP RX1 210 3 4 (.object "CloudInterviews$Applicant") false := ⟨kg_X1_210, fun r hr => by obtain rfl : (RX4, TX4, 5) = r := Option.some.inj hr; exact ⟨⟨tyX4, tyX4_ok, rfl⟩, nmX4, rfl, fun h => by cases h⟩⟩
theorem kv_X2_59 : JV RX2 59 11 yJ4_add cJ4_add 2 (some .boolean) 1 := ⟨(RJ4, TJ4, 3), rfl, rfl, q501, q502, q503, q87, q504, ⟨by decide +kernel, by decide +kernel, by decide +kernel⟩, by decide⟩
theorem kv_J4_131 : JV RJ4 131 11 yJ4_add_2 cJ4_add_2 4 none 3 := ⟨(RJ4, TJ4, 3), rfl, rfl, q505, q507, qs2, q87, q508, ⟨by decide +kernel, by decide +kernel, by decide +kernel⟩, by decide⟩
theorem kv_J4_129 : JV RJ4 129 11 yJ4_grow cJ4_grow 1 (some (.array (.object "java/lang/Object"))) 0 := ⟨(RJ4, TJ4, 3), rfl, rfl, q509, q511, qs3, q87, q512, ⟨by decide +kernel, by decide +kernel, by decide +kernel⟩, by decide⟩
theorem kv_J4_69 : JV RJ4 69 11 yJ4_grow_2 cJ4_grow_2 4 (some (.array (.object "java/lang/Object"))) 1 := ⟨(RJ4, TJ4, 3), rfl, rfl, q513, q515, qs4, q87, q516, ⟨by decide +kernel, by decide +kernel, by decide +kernel⟩, by decide⟩
theorem ks_J4_73 : JS RJ4 73 yJ15_newLength cJ15_newLength 4 (some .int) 3 := ⟨q517, q518, q100, q519, ⟨by decide +kernel, by decide +kernel, by decide +kernel⟩, by decide⟩
theorem km_J15_194 : JMx RJ15 194 := ⟨q520, q521, q101, q522⟩
theorem ks_J15_201 : JS RJ15 201 yJ15_hugeLength cJ15_hugeLength 3 (some .int) 2 := ⟨q524, q525, q100, q526, ⟨by decide +kernel, by decide +kernel, by decide +kernel⟩, by decide⟩
theorem ks_J4_66 : JS RJ4 66 yJ17_copyOf cJ17_copyOf 2 (some (.array (.object "java/lang/Object"))) 2 := ⟨q527, q528, q102, q529, ⟨by decide +kernel, by decide +kernel, by decide +kernel⟩, by decide⟩
theorem ks_J17_300 : JS RJ17 300 yJ17_copyOf_2 cJ17_copyOf_2 4 (some (.array (.object "java/lang/Object"))) 3 := ⟨q562, q563, q102, q564, ⟨by decide +kernel, by decide +kernel, by decide +kernel⟩, by decide⟩
theorem kr_J17_2 : JLR RJ17 2 6 "java/lang/Object" := ⟨by decide, by decide, rfl, q566, q232⟩
theorem km_J17_304 : JMn RJ17 304 := ⟨q567, q568, q101, q569⟩
theorem kcp_J17_150 : JCp RJ17 150 := ⟨q570, q572, q571, q103⟩
theorem km_J4_79 : JMx RJ4 79 := ⟨q573, q521, q101, q522⟩
theorem kr_J4_7 : JLR RJ4 7 6 "java/lang/Object" := ⟨by decide, by decide, rfl, q574, q232⟩
theorem kv_X2_65 : JV RX2 65 2 yX5_copy cX5_copy 1 (some (.object "CloudInterviews$Applicant")) 0 := ⟨(RX5, TX5, 6), rfl, rfl, q575, q576, q577, q104, q578, ⟨by decide +kernel, by decide +kernel, by decide +kernel⟩, by decide⟩
theorem kn_X5_8 : JLN RX5 8 2 [.int 0, .int 0, .int 0, .int 0, .int 0, .null] := ⟨(RX5, TX5, 6), rfl, in_X5, ⟨tyX5, tyX5_ok, fun j hj => by have hj : j < 6 := hj; rcases (show j = 0 ∨ j = 1 ∨ j = 2 ∨ j = 3 ∨ j = 4 ∨ j = 5 by omega) with rfl | rfl | rfl | rfl | rfl | rfl <;> rfl⟩, q579, q580, q104⟩
theorem kc_X5_8 : JLC RX5 8 2 := ⟨"CloudInterviews$Applicant", (RX5, TX5, 6), rfl, q579, Or.inl rfl⟩
theorem kr_X5_8 : JLR RX5 8 7 "CloudInterviews$Applicant" := ⟨by decide, by decide, rfl, q579, q1672⟩
theorem ki_X5_30 : JI RX5 30 yX5_init cX5_init 6 5 := ⟨q581, q582, q104, q583, rfl, ⟨by decide +kernel, by decide +kernel, by decide +kernel⟩, by decide⟩
theorem ko_X5_1 : JLO RX5 1 := ⟨q584, q134, q135⟩
theorem kg_X5_7 : JLG RX5 7 2 0 := ⟨"CloudInterviews$Applicant", (RX5, TX5, 6), rfl, in_X5, by decide, Or.inl q585, Or.inl rfl⟩
theorem kp_X5_7 : JLP RX5 7 2 0 .int true := ⟨kg_X5_7, fun r hr => by obtain rfl : (RX5, TX5, 6) = r := Option.some.inj hr; exact ⟨⟨tyX5, tyX5_ok, rfl⟩, nmX5, rfl, fun _ => rfl⟩⟩
theorem kg_X2_91 : JLG RX2 91 2 0 := ⟨"CloudInterviews$Applicant", (RX5, TX5, 6), rfl, in_X5, by decide, Or.inr ⟨"CloudInterviews", q586⟩, Or.inl rfl⟩
theorem kg_X1_124 : JLG RX1 124 2 0 := ⟨"CloudInterviews$Applicant", (RX5, TX5, 6), rfl, in_X5, by decide, Or.inr ⟨"CloudInterviews", q587⟩, Or.inl rfl⟩
theorem kg_X5_13 : JLG RX5 13 2 1 := ⟨"CloudInterviews$Applicant", (RX5, TX5, 6), rfl, in_X5, by decide, Or.inl q588, Or.inl rfl⟩
theorem kp_X5_13 : JLP RX5 13 2 1 .char true := ⟨kg_X5_13, fun r hr => by obtain rfl : (RX5, TX5, 6) = r := Option.some.inj hr; exact ⟨⟨tyX5, tyX5_ok, rfl⟩, nmX5, rfl, fun _ => rfl⟩⟩
theorem kg_X4_29 : JLG RX4 29 2 1 := ⟨"CloudInterviews$Applicant", (RX5, TX5, 6), rfl, in_X5, by decide, Or.inr ⟨"CloudInterviews", q589⟩, Or.inl rfl⟩
theorem kg_X1_131 : JLG RX1 131 2 1 := ⟨"CloudInterviews$Applicant", (RX5, TX5, 6), rfl, in_X5, by decide, Or.inr ⟨"CloudInterviews", q590⟩, Or.inl rfl⟩
theorem kg_X2_290 : JLG RX2 290 2 1 := ⟨"CloudInterviews$Applicant", (RX5, TX5, 6), rfl, in_X5, by decide, Or.inr ⟨"CloudInterviews", q591⟩, Or.inl rfl⟩
theorem kg_X5_17 : JLG RX5 17 2 2 := ⟨"CloudInterviews$Applicant", (RX5, TX5, 6), rfl, in_X5, by decide, Or.inl q592, Or.inl rfl⟩
theorem kp_X5_17 : JLP RX5 17 2 2 .int true := ⟨kg_X5_17, fun r hr => by obtain rfl : (RX5, TX5, 6) = r := Option.some.inj hr; exact ⟨⟨tyX5, tyX5_ok, rfl⟩, nmX5, rfl, fun _ => rfl⟩⟩
theorem kg_X4_32 : JLG RX4 32 2 2 := ⟨"CloudInterviews$Applicant", (RX5, TX5, 6), rfl, in_X5, by decide, Or.inr ⟨"CloudInterviews", q593⟩, Or.inl rfl⟩
theorem kg_X2_158 : JLG RX2 158 2 2 := ⟨"CloudInterviews$Applicant", (RX5, TX5, 6), rfl, in_X5, by decide, Or.inr ⟨"CloudInterviews", q594⟩, Or.inl rfl⟩
theorem kg_X1_135 : JLG RX1 135 2 2 := ⟨"CloudInterviews$Applicant", (RX5, TX5, 6), rfl, in_X5, by decide, Or.inr ⟨"CloudInterviews", q595⟩, Or.inl rfl⟩
theorem kg_X5_20 : JLG RX5 20 2 3 := ⟨"CloudInterviews$Applicant", (RX5, TX5, 6), rfl, in_X5, by decide, Or.inl q596, Or.inl rfl⟩
theorem kp_X5_20 : JLP RX5 20 2 3 .int false := ⟨kg_X5_20, fun r hr => by obtain rfl : (RX5, TX5, 6) = r := Option.some.inj hr; exact ⟨⟨tyX5, tyX5_ok, rfl⟩, nmX5, rfl, fun h => by cases h⟩⟩
theorem kg_X4_35 : JLG RX4 35 2 3 := ⟨"CloudInterviews$Applicant", (RX5, TX5, 6), rfl, in_X5, by decide, Or.inr ⟨"CloudInterviews", q597⟩, Or.inl rfl⟩
theorem kp_X4_35 : JLP RX4 35 2 3 .int false := ⟨kg_X4_35, fun r hr => by obtain rfl : (RX5, TX5, 6) = r := Option.some.inj hr; exact ⟨⟨tyX5, tyX5_ok, rfl⟩, nmX5, rfl, fun h => by cases h⟩⟩
theorem kg_X2_161 : JLG RX2 161 2 3 := ⟨"CloudInterviews$Applicant", (RX5, TX5, 6), rfl, in_X5, by decide, Or.inr ⟨"CloudInterviews", q598⟩, Or.inl rfl⟩
theorem kp_X2_161 : JLP RX2 161 2 3 .int false := ⟨kg_X2_161, fun r hr => by obtain rfl : (RX5, TX5, 6) = r := Option.some.inj hr; exact ⟨⟨tyX5, tyX5_ok, rfl⟩, nmX5, rfl, fun h => by cases h⟩⟩
theorem kg_X1_138 : JLG RX1 138 2 3 := ⟨"CloudInterviews$Applicant", (RX5, TX5, 6), rfl, in_X5, by decide, Or.inr ⟨"CloudInterviews", q599⟩, Or.inl rfl⟩
theorem kp_X1_138 : JLP RX1 138 2 3 .int false := ⟨kg_X1_138, fun r hr => by obtain rfl : (RX5, TX5, 6) = r := Option.some.inj hr; exact ⟨⟨tyX5, tyX5_ok, rfl⟩, nmX5, rfl, fun h => by cases h⟩⟩
theorem kg_X5_23 : JLG RX5 23 2 4 := ⟨"CloudInterviews$Applicant", (RX5, TX5, 6), rfl, in_X5, by decide, Or.inl q600, Or.inl rfl⟩
theorem kp_X5_23 : JLP RX5 23 2 4 .int false := ⟨kg_X5_23, fun r hr => by obtain rfl : (RX5, TX5, 6) = r := Option.some.inj hr; exact ⟨⟨tyX5, tyX5_ok, rfl⟩, nmX5, rfl, fun h => by cases h⟩⟩
theorem kg_X2_195 : JLG RX2 195 2 4 := ⟨"CloudInterviews$Applicant", (RX5, TX5, 6), rfl, in_X5, by decide, Or.inr ⟨"CloudInterviews", q601⟩, Or.inl rfl⟩
theorem kp_X2_195 : JLP RX2 195 2 4 .int false := ⟨kg_X2_195, fun r hr => by obtain rfl : (RX5, TX5, 6) = r := Option.some.inj hr; exact ⟨⟨tyX5, tyX5_ok, rfl⟩, nmX5, rfl, fun h => by cases h⟩⟩
theorem kg_X1_141 : JLG RX1 141 2 4 := ⟨"CloudInterviews$Applicant", (RX5, TX5, 6), rfl, in_X5, by decide, Or.inr ⟨"CloudInterviews", q602⟩, Or.inl rfl⟩
theorem kp_X1_141 : JLP RX1 141 2 4 .int false := ⟨kg_X1_141, fun r hr => by obtain rfl : (RX5, TX5, 6) = r := Option.some.inj hr; exact ⟨⟨tyX5, tyX5_ok, rfl⟩, nmX5, rfl, fun h => by cases h⟩⟩
theorem kg_X5_26 : JLG RX5 26 2 5 := ⟨"CloudInterviews$Applicant", (RX5, TX5, 6), rfl, in_X5, by decide, Or.inl q603, Or.inl rfl⟩
theorem kp_X5_26 : JLP RX5 26 2 5 (.object "CloudInterviews$Post") false := ⟨kg_X5_26, fun r hr => by obtain rfl : (RX5, TX5, 6) = r := Option.some.inj hr; exact ⟨⟨tyX5, tyX5_ok, rfl⟩, nmX5, rfl, fun h => by cases h⟩⟩
theorem kg_X2_75 : JLG RX2 75 2 5 := ⟨"CloudInterviews$Applicant", (RX5, TX5, 6), rfl, in_X5, by decide, Or.inr ⟨"CloudInterviews", q604⟩, Or.inl rfl⟩
theorem kp_X2_75 : JLP RX2 75 2 5 (.object "CloudInterviews$Post") false := ⟨kg_X2_75, fun r hr => by obtain rfl : (RX5, TX5, 6) = r := Option.some.inj hr; exact ⟨⟨tyX5, tyX5_ok, rfl⟩, nmX5, rfl, fun h => by cases h⟩⟩
theorem kg_X4_41 : JLG RX4 41 2 5 := ⟨"CloudInterviews$Applicant", (RX5, TX5, 6), rfl, in_X5, by decide, Or.inr ⟨"CloudInterviews", q605⟩, Or.inl rfl⟩
theorem kp_X4_41 : JLP RX4 41 2 5 (.object "CloudInterviews$Post") false := ⟨kg_X4_41, fun r hr => by obtain rfl : (RX5, TX5, 6) = r := Option.some.inj hr; exact ⟨⟨tyX5, tyX5_ok, rfl⟩, nmX5, rfl, fun h => by cases h⟩⟩
theorem kg_X1_152 : JLG RX1 152 2 5 := ⟨"CloudInterviews$Applicant", (RX5, TX5, 6), rfl, in_X5, by decide, Or.inr ⟨"CloudInterviews", q606⟩, Or.inl rfl⟩
theorem kp_X1_152 : JLP RX1 152 2 5 (.object "CloudInterviews$Post") false := ⟨kg_X1_152, fun r hr => by obtain rfl : (RX5, TX5, 6) = r := Option.some.inj hr; exact ⟨⟨tyX5, tyX5_ok, rfl⟩, nmX5, rfl, fun h => by cases h⟩⟩
theorem kv_X2_68 : JV RX2 68 1 yX2_put cX2_put 4 (some (.object "CloudInterviews$Applicant")) 1 := ⟨(RX2, TX2, 6), rfl, rfl, q620, q622, qs5, q82, q623, ⟨by decide +kernel, by decide +kernel, by decide +kernel⟩, by decide⟩
theorem ks_X2_102 : JS RX2 102 yJ19_valueOf cJ19_valueOf 1 (some (.object "java/lang/Integer")) 1 := ⟨q624, q625, q106, q626, ⟨by decide +kernel, by decide +kernel, by decide +kernel⟩, by decide⟩
theorem kst_J19_191 : JLS RJ19 191 "java/lang/Integer$IntegerCache" "high" "I" := ⟨"java/lang/Integer$IntegerCache", q627, Or.inl rfl⟩
theorem kst_J19_195 : JLS RJ19 195 "java/lang/Integer$IntegerCache" "cache" "[Ljava/lang/Integer;" := ⟨"java/lang/Integer$IntegerCache", q629, Or.inl rfl⟩
theorem kn_J19_1 : JLN RJ19 1 16 [.int 0] := ⟨(RJ19, TJ19, 1), rfl, in_J19, ⟨tyJ19, tyJ19_ok, fun j hj => by have hj : j < 1 := hj; rcases (show j = 0 by omega) with rfl <;> rfl⟩, q631, q632, q106⟩
theorem kc_J19_1 : JLC RJ19 1 16 := ⟨"java/lang/Integer", (RJ19, TJ19, 1), rfl, q631, Or.inl rfl⟩
theorem ki_J19_199 : JI RJ19 199 yJ19_init cJ19_init 2 1 := ⟨q633, q634, q106, q635, rfl, ⟨by decide +kernel, by decide +kernel, by decide +kernel⟩, by decide⟩
theorem ki_J19_202 : JI RJ19 202 yJ18_init cJ18_init 1 0 := ⟨q636, q637, q105, q638, rfl, ⟨by decide +kernel, by decide +kernel, by decide +kernel⟩, by decide⟩
theorem ko_J18_1 : JLO RJ18 1 := ⟨q639, q134, q135⟩
theorem kg_J19_205 : JLG RJ19 205 16 0 := ⟨"java/lang/Integer", (RJ19, TJ19, 1), rfl, in_J19, by decide, Or.inl q640, Or.inl rfl⟩
theorem kp_J19_205 : JLP RJ19 205 16 0 .int true := ⟨kg_J19_205, fun r hr => by obtain rfl : (RJ19, TJ19, 1) = r := Option.some.inj hr; exact ⟨⟨tyJ19, tyJ19_ok, rfl⟩, nmJ19, rfl, fun _ => rfl⟩⟩
theorem kv_X2_108 : JV RX2 108 9 yJ1_put cJ1_put 3 (some (.object "java/lang/Object")) 2 := ⟨(RJ1, TJ1, 8), rfl, rfl, q644, q645, q646, q84, q647, ⟨by decide +kernel, by decide +kernel, by decide +kernel⟩, by decide⟩
theorem ks_J1_149 : JS RJ1 149 yJ1_hash cJ1_hash 2 (some .int) 1 := ⟨q648, q649, q84, q650, ⟨by decide +kernel, by decide +kernel, by decide +kernel⟩, by decide⟩
theorem ku_J1_1_4 : JU RJ1 1 4 ⟨"java/lang/Object", "hashCode", "()I"⟩ yX6_hashCode cX6_hashCode 1 (some .int) 0 := ⟨(RX6, TX6, 2), "java/lang/Object", rfl, q652, q654, q661, q662, q119, q663, Or.inr (Or.inr q651), ⟨by decide +kernel, by decide +kernel, by decide +kernel⟩, by decide⟩
theorem ku_J1_1_16 : JU RJ1 1 16 ⟨"java/lang/Object", "hashCode", "()I"⟩ yJ19_hashCode cJ19_hashCode 1 (some .int) 0 := ⟨(RJ19, TJ19, 1), "java/lang/Object", rfl, q652, q654, q677, q678, q106, q679, Or.inr (Or.inr q651), ⟨by decide +kernel, by decide +kernel, by decide +kernel⟩, by decide⟩
theorem ku_J1_1_15 : JU RJ1 1 15 ⟨"java/lang/Object", "hashCode", "()I"⟩ yJ8_hashCode cJ8_hashCode 2 (some .int) 0 := ⟨(RJ8, TJ8, 4), "java/lang/Object", rfl, q652, q654, q683, q684, q91, q685, Or.inr (Or.inr q651), ⟨by decide +kernel, by decide +kernel, by decide +kernel⟩, by decide⟩
theorem ks_J19_208 : JS RJ19 208 yJ19_hashCode_2 cJ19_hashCode_2 1 (some .int) 1 := ⟨q680, q681, q106, q682, ⟨by decide +kernel, by decide +kernel, by decide +kernel⟩, by decide⟩
theorem kv_J8_492 : JV RJ8 492 15 yJ8_isLatin1 cJ8_isLatin1 1 (some .boolean) 0 := ⟨(RJ8, TJ8, 4), rfl, rfl, q686, q687, q688, q91, q689, ⟨by decide +kernel, by decide +kernel, by decide +kernel⟩, by decide⟩
theorem kst_J8_38 : JLS RJ8 38 "java/lang/String" "COMPACT_STRINGS" "Z" := ⟨"java/lang/String", q690, Or.inl rfl⟩
theorem ks_J8_628 : JS RJ8 628 yJ21_hashCode cJ21_hashCode 1 (some .int) 1 := ⟨q691, q692, q109, q693, ⟨by decide +kernel, by decide +kernel, by decide +kernel⟩, by decide⟩
theorem kst_J15_106 : JLS RJ15 106 "jdk/internal/util/ArraysSupport" "JLA" "Ljdk/internal/access/JavaLangAccess;" := ⟨"jdk/internal/util/ArraysSupport", q704, Or.inl rfl⟩
theorem kst_J9_44 : JLS RJ9 44 "java/lang/StringUTF16" "$assertionsDisabled" "Z" := ⟨"java/lang/StringUTF16", q719, Or.inl rfl⟩
theorem ks_J9_48 : JS RJ9 48 yJ9_length cJ9_length 1 (some .int) 1 := ⟨q721, q722, q92, q723, ⟨by decide +kernel, by decide +kernel, by decide +kernel⟩, by decide⟩
theorem kst_J9_59 : JLS RJ9 59 "java/lang/StringUTF16" "HI_BYTE_SHIFT" "I" := ⟨"java/lang/StringUTF16", q724, Or.inl rfl⟩
theorem kst_J9_63 : JLS RJ9 63 "java/lang/StringUTF16" "LO_BYTE_SHIFT" "I" := ⟨"java/lang/StringUTF16", q726, Or.inl rfl⟩
theorem kn_J15_89 : JLN RJ15 89 14 [.null, .int 0, .int 0, .int 0] := ⟨(RJ7, TJ7, 4), rfl, in_J7, ⟨tyJ7, tyJ7_ok, fun j hj => by have hj : j < 4 := hj; rcases (show j = 0 ∨ j = 1 ∨ j = 2 ∨ j = 3 by omega) with rfl | rfl | rfl | rfl <;> rfl⟩, q752, q244, q90⟩
theorem kc_J15_89 : JLC RJ15 89 14 := ⟨"java/lang/StringBuilder", (RJ7, TJ7, 4), rfl, q752, Or.inl rfl⟩
theorem ki_J15_91 : JI RJ15 91 yJ7_init cJ7_init 1 0 := ⟨q753, q246, q90, q247, rfl, ⟨by decide +kernel, by decide +kernel, by decide +kernel⟩, by decide⟩
theorem kv_J15_94 : JV RJ15 94 14 yJ7_append cJ7_append 2 (some (.object "java/lang/StringBuilder")) 1 := ⟨(RJ7, TJ7, 4), rfl, rfl, q755, q756, q757, q90, q758, ⟨by decide +kernel, by decide +kernel, by decide +kernel⟩, by decide⟩
theorem ksu_J7_29 : JSU RJ7 29 14 yJ6_append cJ6_append 3 (some (.object "java/lang/AbstractStringBuilder")) 1 := ⟨(RJ7, TJ7, 4), rfl, q759, q2981, q273, q760, q89, q761, by decide +kernel, by decide +kernel, by decide⟩
theorem ks_J6_114 : JS RJ6 114 yJ15_newLength cJ15_newLength 4 (some .int) 3 := ⟨q774, q518, q100, q519, ⟨by decide +kernel, by decide +kernel, by decide +kernel⟩, by decide⟩
theorem ks_J6_108 : JS RJ6 108 yJ17_copyOf_3 cJ17_copyOf_3 3 (some (.array .byte)) 2 := ⟨q776, q777, q102, q778, ⟨by decide +kernel, by decide +kernel, by decide +kernel⟩, by decide⟩
theorem ku_J6_83_14 : JU RJ6 83 14 ⟨"java/lang/AbstractStringBuilder", "isLatin1", "()Z"⟩ yJ6_isLatin1 cJ6_isLatin1 1 (some .boolean) 0 := ⟨(RJ7, TJ7, 4), "java/lang/AbstractStringBuilder", rfl, q786, q788, q789, q787, q89, q790, Or.inl rfl, ⟨by decide +kernel, by decide +kernel, by decide +kernel⟩, by decide⟩
theorem ks_J6_226 : JS RJ6 226 yJ9_putCharsAt cJ9_putCharsAt 7 (some .int) 6 := ⟨q791, q792, q92, q793, ⟨by decide +kernel, by decide +kernel, by decide +kernel⟩, by decide⟩
theorem ks_J9_96 : JS RJ9 96 yJ9_checkBoundsBeginEnd cJ9_checkBoundsBeginEnd 3 none 3 := ⟨q794, q795, q92, q796, ⟨by decide +kernel, by decide +kernel, by decide +kernel⟩, by decide⟩
theorem ks_J9_241 : JS RJ9 241 yJ8_checkBoundsBeginEnd cJ8_checkBoundsBeginEnd 3 none 3 := ⟨q797, q798, q91, q799, ⟨by decide +kernel, by decide +kernel, by decide +kernel⟩, by decide⟩
theorem kst_J8_1053 : JLS RJ8 1053 "jdk/internal/util/Preconditions" "SIOOBE_FORMATTER" "Ljava/util/function/BiFunction;" := ⟨"jdk/internal/util/Preconditions", q800, Or.inl rfl⟩
theorem ks_J8_1062 : JS RJ8 1062 yJ23_checkFromToIndex cJ23_checkFromToIndex 4 (some .int) 4 := ⟨q802, q803, q111, q804, ⟨by decide +kernel, by decide +kernel, by decide +kernel⟩, by decide⟩
theorem ks_J9_111 : JS RJ9 111 yJ9_putChar cJ9_putChar 3 none 3 := ⟨q805, q806, q92, q807, ⟨by decide +kernel, by decide +kernel, by decide +kernel⟩, by decide⟩
theorem kv_J6_32 : JV RJ6 32 15 yJ8_length cJ8_length 1 (some .int) 0 := ⟨(RJ8, TJ8, 4), rfl, rfl, q808, q809, q810, q91, q811, ⟨by decide +kernel, by decide +kernel, by decide +kernel⟩, by decide⟩
theorem kv_J8_335 : JV RJ8 335 15 yJ8_coder cJ8_coder 1 (some .byte) 0 := ⟨(RJ8, TJ8, 4), rfl, rfl, q812, q813, q814, q91, q815, ⟨by decide +kernel, by decide +kernel, by decide +kernel⟩, by decide⟩
theorem kv_J6_40 : JV RJ6 40 15 yJ8_coder cJ8_coder 1 (some .byte) 0 := ⟨(RJ8, TJ8, 4), rfl, rfl, q824, q813, q814, q91, q815, ⟨by decide +kernel, by decide +kernel, by decide +kernel⟩, by decide⟩
theorem ks_J6_125 : JS RJ6 125 yJ21_inflate cJ21_inflate 5 none 5 := ⟨q829, q830, q109, q831, ⟨by decide +kernel, by decide +kernel, by decide +kernel⟩, by decide⟩
theorem ks_J21_240 : JS RJ21 240 yJ9_inflate cJ9_inflate 6 none 5 := ⟨q832, q833, q92, q834, ⟨by decide +kernel, by decide +kernel, by decide +kernel⟩, by decide⟩
theorem ks_J9_173 : JS RJ9 173 yJ9_checkBoundsOffCount cJ9_checkBoundsOffCount 3 none 3 := ⟨q835, q836, q92, q837, ⟨by decide +kernel, by decide +kernel, by decide +kernel⟩, by decide⟩
theorem ks_J9_419 : JS RJ9 419 yJ8_checkBoundsOffCount cJ8_checkBoundsOffCount 3 (some .int) 3 := ⟨q838, q839, q91, q840, ⟨by decide +kernel, by decide +kernel, by decide +kernel⟩, by decide⟩
theorem ks_J8_1065 : JS RJ8 1065 yJ23_checkFromIndexSize cJ23_checkFromIndexSize 4 (some .int) 4 := ⟨q841, q842, q111, q843, ⟨by decide +kernel, by decide +kernel, by decide +kernel⟩, by decide⟩
theorem kv_J6_399 : JV RJ6 399 15 yJ8_getBytes cJ8_getBytes 4 none 3 := ⟨(RJ8, TJ8, 4), rfl, rfl, q844, q845, q846, q91, q847, ⟨by decide +kernel, by decide +kernel, by decide +kernel⟩, by decide⟩
theorem kcp_J8_212 : JCp RJ8 212 := ⟨q848, q572, q571, q103⟩
theorem ks_J8_106 : JS RJ8 106 yJ21_inflate cJ21_inflate 5 none 5 := ⟨q849, q830, q109, q831, ⟨by decide +kernel, by decide +kernel, by decide +kernel⟩, by decide⟩
theorem kv_J15_98 : JV RJ15 98 14 yJ7_append_2 cJ7_append_2 2 (some (.object "java/lang/StringBuilder")) 1 := ⟨(RJ7, TJ7, 4), rfl, rfl, q850, q851, q852, q90, q853, ⟨by decide +kernel, by decide +kernel, by decide +kernel⟩, by decide⟩
theorem ksu_J7_53 : JSU RJ7 53 14 yJ6_append_2 cJ6_append_2 4 (some (.object "java/lang/AbstractStringBuilder")) 1 := ⟨(RJ7, TJ7, 4), rfl, q854, q2988, q273, q855, q89, q856, by decide +kernel, by decide +kernel, by decide⟩
theorem ks_J6_245 : JS RJ6 245 yJ19_stringSize cJ19_stringSize 4 (some .int) 1 := ⟨q857, q858, q106, q859, ⟨by decide +kernel, by decide +kernel, by decide +kernel⟩, by decide⟩
theorem ks_J6_248 : JS RJ6 248 yJ19_getChars cJ19_getChars 7 (some .int) 3 := ⟨q860, q861, q106, q862, ⟨by decide +kernel, by decide +kernel, by decide +kernel⟩, by decide⟩
theorem kst_J19_83 : JLS RJ19 83 "java/lang/Integer" "DigitOnes" "[B" := ⟨"java/lang/Integer", q863, Or.inl rfl⟩
theorem kst_J19_87 : JLS RJ19 87 "java/lang/Integer" "DigitTens" "[B" := ⟨"java/lang/Integer", q865, Or.inl rfl⟩
theorem ks_J6_251 : JS RJ6 251 yJ9_getChars cJ9_getChars 5 (some .int) 4 := ⟨q867, q868, q92, q869, ⟨by decide +kernel, by decide +kernel, by decide +kernel⟩, by decide⟩
theorem ks_J9_393 : JS RJ9 393 yJ9_getChars_2 cJ9_getChars_2 7 (some .int) 3 := ⟨q870, q871, q92, q872, ⟨by decide +kernel, by decide +kernel, by decide +kernel⟩, by decide⟩
theorem kst_J9_403 : JLS RJ9 403 "java/lang/Integer" "DigitOnes" "[B" := ⟨"java/lang/Integer", q873, Or.inl rfl⟩
theorem kst_J9_407 : JLS RJ9 407 "java/lang/Integer" "DigitTens" "[B" := ⟨"java/lang/Integer", q874, Or.inl rfl⟩
theorem kv_J15_101 : JV RJ15 101 14 yJ7_toString cJ7_toString 1 (some (.object "java/lang/String")) 0 := ⟨(RJ7, TJ7, 4), rfl, rfl, q875, q876, q877, q90, q878, ⟨by decide +kernel, by decide +kernel, by decide +kernel⟩, by decide⟩
theorem kn_J7_18 : JLN RJ7 18 15 [.null, .int 0, .int 0, .int 0] := ⟨(RJ8, TJ8, 4), rfl, in_J8, ⟨tyJ8, tyJ8_ok, fun j hj => by have hj : j < 4 := hj; rcases (show j = 0 ∨ j = 1 ∨ j = 2 ∨ j = 3 by omega) with rfl | rfl | rfl | rfl <;> rfl⟩, q879, q880, q91⟩
theorem kc_J7_18 : JLC RJ7 18 15 := ⟨"java/lang/String", (RJ8, TJ8, 4), rfl, q879, Or.inl rfl⟩
theorem kr_J7_18 : JLR RJ7 18 9 "java/lang/String" := ⟨by decide, by decide, rfl, q879, q2295⟩
theorem ki_J7_137 : JI RJ7 137 yJ8_init cJ8_init 2 1 := ⟨q881, q882, q91, q883, rfl, ⟨by decide +kernel, by decide +kernel, by decide +kernel⟩, by decide⟩
theorem ki_J8_489 : JI RJ8 489 yJ8_init_2 cJ8_init_2 5 2 := ⟨q884, q885, q91, q886, rfl, ⟨by decide +kernel, by decide +kernel, by decide +kernel⟩, by decide⟩
theorem ko_J8_1 : JLO RJ8 1 := ⟨q887, q134, q135⟩
theorem ku_J8_552_14 : JU RJ8 552 14 ⟨"java/lang/AbstractStringBuilder", "getValue", "()[B"⟩ yJ6_getValue cJ6_getValue 1 (some (.array .byte)) 0 := ⟨(RJ7, TJ7, 4), "java/lang/AbstractStringBuilder", rfl, q888, q890, q891, q889, q89, q892, Or.inl rfl, ⟨by decide +kernel, by decide +kernel, by decide +kernel⟩, by decide⟩
theorem ku_J8_549_14 : JU RJ8 549 14 ⟨"java/lang/AbstractStringBuilder", "length", "()I"⟩ yJ7_length cJ7_length 1 (some .int) 0 := ⟨(RJ7, TJ7, 4), "java/lang/AbstractStringBuilder", rfl, q893, q895, q896, q897, q90, q898, Or.inr (Or.inl ⟨q894, _, _, _, q900⟩), ⟨by decide +kernel, by decide +kernel, by decide +kernel⟩, by decide⟩
theorem ku_J7_343_14 : JU RJ7 343 14 ⟨"java/lang/AbstractStringBuilder", "length", "()I"⟩ yJ7_length cJ7_length 1 (some .int) 0 := ⟨(RJ7, TJ7, 4), "java/lang/AbstractStringBuilder", rfl, q899, q895, q896, q897, q90, q898, Or.inr (Or.inl ⟨q894, _, _, _, q900⟩), ⟨by decide +kernel, by decide +kernel, by decide +kernel⟩, by decide⟩
theorem ksu_J7_343 : JSU RJ7 343 14 yJ6_length cJ6_length 1 (some .int) 0 := ⟨(RJ7, TJ7, 4), rfl, q899, q895, q273, q894, q89, q900, by decide +kernel, by decide +kernel, by decide⟩
theorem ku_J8_1047_14 : JU RJ8 1047 14 ⟨"java/lang/AbstractStringBuilder", "isLatin1", "()Z"⟩ yJ6_isLatin1 cJ6_isLatin1 1 (some .boolean) 0 := ⟨(RJ7, TJ7, 4), "java/lang/AbstractStringBuilder", rfl, q901, q788, q789, q787, q89, q790, Or.inl rfl, ⟨by decide +kernel, by decide +kernel, by decide +kernel⟩, by decide⟩
theorem ks_J8_54 : JS RJ8 54 yJ17_copyOfRange cJ17_copyOfRange 3 (some (.array .byte)) 3 := ⟨q902, q903, q102, q904, ⟨by decide +kernel, by decide +kernel, by decide +kernel⟩, by decide⟩
theorem ks_J17_339 : JS RJ17 339 yJ17_copyOfRangeByte cJ17_copyOfRangeByte 5 (some (.array .byte)) 3 := ⟨q905, q906, q102, q907, ⟨by decide +kernel, by decide +kernel, by decide +kernel⟩, by decide⟩
theorem ks_J17_343 : JS RJ17 343 yJ17_checkLength cJ17_checkLength 2 none 2 := ⟨q908, q909, q102, q910, ⟨by decide +kernel, by decide +kernel, by decide +kernel⟩, by decide⟩
theorem kn_J17_45 : JLN RJ17 45 14 [.null, .int 0, .int 0, .int 0] := ⟨(RJ7, TJ7, 4), rfl, in_J7, ⟨tyJ7, tyJ7_ok, fun j hj => by have hj : j < 4 := hj; rcases (show j = 0 ∨ j = 1 ∨ j = 2 ∨ j = 3 by omega) with rfl | rfl | rfl | rfl <;> rfl⟩, q912, q244, q90⟩
theorem kc_J17_45 : JLC RJ17 45 14 := ⟨"java/lang/StringBuilder", (RJ7, TJ7, 4), rfl, q912, Or.inl rfl⟩
theorem ki_J17_47 : JI RJ17 47 yJ7_init cJ7_init 1 0 := ⟨q913, q246, q90, q247, rfl, ⟨by decide +kernel, by decide +kernel, by decide +kernel⟩, by decide⟩
theorem kv_J17_54 : JV RJ17 54 14 yJ7_append_2 cJ7_append_2 2 (some (.object "java/lang/StringBuilder")) 1 := ⟨(RJ7, TJ7, 4), rfl, rfl, q914, q851, q852, q90, q853, ⟨by decide +kernel, by decide +kernel, by decide +kernel⟩, by decide⟩
theorem kv_J17_50 : JV RJ17 50 14 yJ7_append cJ7_append 2 (some (.object "java/lang/StringBuilder")) 1 := ⟨(RJ7, TJ7, 4), rfl, rfl, q916, q756, q757, q90, q758, ⟨by decide +kernel, by decide +kernel, by decide +kernel⟩, by decide⟩
theorem kv_J17_61 : JV RJ17 61 14 yJ7_toString cJ7_toString 1 (some (.object "java/lang/String")) 0 := ⟨(RJ7, TJ7, 4), rfl, rfl, q917, q876, q877, q90, q878, ⟨by decide +kernel, by decide +kernel, by decide +kernel⟩, by decide⟩
theorem ki_J12_7 : JI RJ12 7 yJ11_init_2 cJ11_init_2 2 1 := ⟨q927, q928, q95, q929, rfl, ⟨by decide +kernel, by decide +kernel, by decide +kernel⟩, by decide⟩
theorem ks_J8_1051 : JS RJ8 1051 yJ9_compress cJ9_compress 6 (some (.array .byte)) 3 := ⟨q932, q933, q92, q934, ⟨by decide +kernel, by decide +kernel, by decide +kernel⟩, by decide⟩
theorem ks_J9_123 : JS RJ9 123 yJ9_compress_2 cJ9_compress_2 7 (some .int) 5 := ⟨q935, q936, q92, q937, ⟨by decide +kernel, by decide +kernel, by decide +kernel⟩, by decide⟩
theorem ks_J9_71 : JS RJ9 71 yJ9_getChar cJ9_getChar 2 (some .char) 2 := ⟨q938, q717, q92, q718, ⟨by decide +kernel, by decide +kernel, by decide +kernel⟩, by decide⟩
theorem ks_J9_126 : JS RJ9 126 yJ17_copyOfRange cJ17_copyOfRange 3 (some (.array .byte)) 3 := ⟨q939, q903, q102, q904, ⟨by decide +kernel, by decide +kernel, by decide +kernel⟩, by decide⟩
theorem ks_J8_47 : JS RJ8 47 yJ9_coderFromArrayLen cJ9_coderFromArrayLen 2 (some .byte) 2 := ⟨q940, q941, q92, q942, ⟨by decide +kernel, by decide +kernel, by decide +kernel⟩, by decide⟩
theorem kg_J8_9 : JLG RJ8 9 15 0 := ⟨"java/lang/String", (RJ8, TJ8, 4), rfl, in_J8, by decide, Or.inl q943, Or.inl rfl⟩
theorem kp_J8_9 : JLP RJ8 9 15 0 (.array .byte) true := ⟨kg_J8_9, fun r hr => by obtain rfl : (RJ8, TJ8, 4) = r := Option.some.inj hr; exact ⟨⟨tyJ8, tyJ8_ok, rfl⟩, nmJ8, rfl, fun _ => rfl⟩⟩
theorem kg_J8_15 : JLG RJ8 15 15 1 := ⟨"java/lang/String", (RJ8, TJ8, 4), rfl, in_J8, by decide, Or.inl q944, Or.inl rfl⟩
theorem kp_J8_15 : JLP RJ8 15 15 1 .byte true := ⟨kg_J8_15, fun r hr => by obtain rfl : (RJ8, TJ8, 4) = r := Option.some.inj hr; exact ⟨⟨tyJ8, tyJ8_ok, rfl⟩, nmJ8, rfl, fun _ => rfl⟩⟩
theorem kg_J8_19 : JLG RJ8 19 15 2 := ⟨"java/lang/String", (RJ8, TJ8, 4), rfl, in_J8, by decide, Or.inl q945, Or.inl rfl⟩
theorem kp_J8_19 : JLP RJ8 19 15 2 .int false := ⟨kg_J8_19, fun r hr => by obtain rfl : (RJ8, TJ8, 4) = r := Option.some.inj hr; exact ⟨⟨tyJ8, tyJ8_ok, rfl⟩, nmJ8, rfl, fun h => by cases h⟩⟩
theorem kg_J8_23 : JLG RJ8 23 15 3 := ⟨"java/lang/String", (RJ8, TJ8, 4), rfl, in_J8, by decide, Or.inl q946, Or.inl rfl⟩
theorem kp_J8_23 : JLP RJ8 23 15 3 .boolean false := ⟨kg_J8_23, fun r hr => by obtain rfl : (RJ8, TJ8, 4) = r := Option.some.inj hr; exact ⟨⟨tyJ8, tyJ8_ok, rfl⟩, nmJ8, rfl, fun h => by cases h⟩⟩
theorem kv_J1_152 : JV RJ1 152 9 yJ1_putVal cJ1_putVal 13 (some (.object "java/lang/Object")) 5 := ⟨(RJ1, TJ1, 8), rfl, rfl, q966, q967, q968, q84, q969, ⟨by decide +kernel, by decide +kernel, by decide +kernel⟩, by decide⟩
theorem kv_J1_117 : JV RJ1 117 9 yJ1_resize cJ1_resize 14 (some (.array (.object "java/util/HashMap$Node"))) 0 := ⟨(RJ1, TJ1, 8), rfl, rfl, q970, q971, q972, q84, q973, ⟨by decide +kernel, by decide +kernel, by decide +kernel⟩, by decide⟩
theorem kn_J1_163 : JLN RJ1 163 10 [.int 0, .null, .null, .null] := ⟨(RJ24, TJ24, 4), rfl, in_J24, ⟨tyJ24, tyJ24_ok, fun j hj => by have hj : j < 4 := hj; rcases (show j = 0 ∨ j = 1 ∨ j = 2 ∨ j = 3 by omega) with rfl | rfl | rfl | rfl <;> rfl⟩, q977, q993, q112⟩
theorem kc_J1_163 : JLC RJ1 163 10 := ⟨"java/util/HashMap$Node", (RJ24, TJ24, 4), rfl, q977, Or.inl rfl⟩
theorem kr_J1_163 : JLR RJ1 163 8 "java/util/HashMap$Node" := ⟨by decide, by decide, rfl, q977, q978⟩
theorem ki_J1_375 : JI RJ1 375 yJ24_init cJ24_init 5 4 := ⟨q994, q995, q112, q996, rfl, ⟨by decide +kernel, by decide +kernel, by decide +kernel⟩, by decide⟩
theorem ko_J24_1 : JLO RJ24 1 := ⟨q997, q134, q135⟩
theorem kg_J24_7 : JLG RJ24 7 10 0 := ⟨"java/util/HashMap$Node", (RJ24, TJ24, 4), rfl, in_J24, by decide, Or.inl q998, Or.inl rfl⟩
theorem kp_J24_7 : JLP RJ24 7 10 0 .int true := ⟨kg_J24_7, fun r hr => by obtain rfl : (RJ24, TJ24, 4) = r := Option.some.inj hr; exact ⟨⟨tyJ24, tyJ24_ok, rfl⟩, nmJ24, rfl, fun _ => rfl⟩⟩
theorem kg_J1_168 : JLG RJ1 168 10 0 := ⟨"java/util/HashMap$Node", (RJ24, TJ24, 4), rfl, in_J24, by decide, Or.inl q1001, Or.inl rfl⟩
theorem kg_J24_13 : JLG RJ24 13 10 1 := ⟨"java/util/HashMap$Node", (RJ24, TJ24, 4), rfl, in_J24, by decide, Or.inl q1002, Or.inl rfl⟩
theorem kp_J24_13 : JLP RJ24 13 10 1 (.object "java/lang/Object") true := ⟨kg_J24_13, fun r hr => by obtain rfl : (RJ24, TJ24, 4) = r := Option.some.inj hr; exact ⟨⟨tyJ24, tyJ24_ok, rfl⟩, nmJ24, rfl, fun _ => rfl⟩⟩
theorem kg_J1_170 : JLG RJ1 170 10 1 := ⟨"java/util/HashMap$Node", (RJ24, TJ24, 4), rfl, in_J24, by decide, Or.inl q1005, Or.inl rfl⟩
theorem kg_J24_17 : JLG RJ24 17 10 2 := ⟨"java/util/HashMap$Node", (RJ24, TJ24, 4), rfl, in_J24, by decide, Or.inl q1006, Or.inl rfl⟩
theorem kp_J24_17 : JLP RJ24 17 10 2 (.object "java/lang/Object") false := ⟨kg_J24_17, fun r hr => by obtain rfl : (RJ24, TJ24, 4) = r := Option.some.inj hr; exact ⟨⟨tyJ24, tyJ24_ok, rfl⟩, nmJ24, rfl, fun h => by cases h⟩⟩
theorem kg_J1_162 : JLG RJ1 162 10 2 := ⟨"java/util/HashMap$Node", (RJ24, TJ24, 4), rfl, in_J24, by decide, Or.inl q1007, Or.inl rfl⟩
theorem kp_J1_162 : JLP RJ1 162 10 2 (.object "java/lang/Object") false := ⟨kg_J1_162, fun r hr => by obtain rfl : (RJ24, TJ24, 4) = r := Option.some.inj hr; exact ⟨⟨tyJ24, tyJ24_ok, rfl⟩, nmJ24, rfl, fun h => by cases h⟩⟩
theorem kg_J24_20 : JLG RJ24 20 10 3 := ⟨"java/util/HashMap$Node", (RJ24, TJ24, 4), rfl, in_J24, by decide, Or.inl q1008, Or.inl rfl⟩
theorem kp_J24_20 : JLP RJ24 20 10 3 (.object "java/util/HashMap$Node") false := ⟨kg_J24_20, fun r hr => by obtain rfl : (RJ24, TJ24, 4) = r := Option.some.inj hr; exact ⟨⟨tyJ24, tyJ24_ok, rfl⟩, nmJ24, rfl, fun h => by cases h⟩⟩
theorem kg_J1_177 : JLG RJ1 177 10 3 := ⟨"java/util/HashMap$Node", (RJ24, TJ24, 4), rfl, in_J24, by decide, Or.inl q1012, Or.inl rfl⟩
theorem kp_J1_177 : JLP RJ1 177 10 3 (.object "java/util/HashMap$Node") false := ⟨kg_J1_177, fun r hr => by obtain rfl : (RJ24, TJ24, 4) = r := Option.some.inj hr; exact ⟨⟨tyJ24, tyJ24_ok, rfl⟩, nmJ24, rfl, fun h => by cases h⟩⟩
theorem kn_J1_13 : JLN RJ1 13 15 [.null, .int 0, .int 0, .int 0] := ⟨(RJ8, TJ8, 4), rfl, in_J8, ⟨tyJ8, tyJ8_ok, fun j hj => by have hj : j < 4 := hj; rcases (show j = 0 ∨ j = 1 ∨ j = 2 ∨ j = 3 by omega) with rfl | rfl | rfl | rfl <;> rfl⟩, q1032, q880, q91⟩
theorem kc_J1_13 : JLC RJ1 13 15 := ⟨"java/lang/String", (RJ8, TJ8, 4), rfl, q1032, Or.inl rfl⟩
theorem kr_J1_13 : JLR RJ1 13 9 "java/lang/String" := ⟨by decide, by decide, rfl, q1032, q2295⟩
theorem kn_J8_10 : JLN RJ8 10 15 [.null, .int 0, .int 0, .int 0] := ⟨(RJ8, TJ8, 4), rfl, in_J8, ⟨tyJ8, tyJ8_ok, fun j hj => by have hj : j < 4 := hj; rcases (show j = 0 ∨ j = 1 ∨ j = 2 ∨ j = 3 by omega) with rfl | rfl | rfl | rfl <;> rfl⟩, q1073, q880, q91⟩
theorem kc_J8_10 : JLC RJ8 10 15 := ⟨"java/lang/String", (RJ8, TJ8, 4), rfl, q1073, Or.inl rfl⟩
theorem kr_J8_10 : JLR RJ8 10 9 "java/lang/String" := ⟨by decide, by decide, rfl, q1073, q2295⟩
theorem km_J21_38 : JMn RJ21 38 := ⟨q1084, q568, q101, q569⟩
theorem kst_J15_126 : JLS RJ15 126 "jdk/internal/misc/Unsafe" "ARRAY_BYTE_BASE_OFFSET" "I" := ⟨"jdk/internal/misc/Unsafe", q1088, Or.inl rfl⟩
theorem kst_J15_129 : JLS RJ15 129 "jdk/internal/util/ArraysSupport" "LOG2_ARRAY_BYTE_INDEX_SCALE" "I" := ⟨"jdk/internal/util/ArraysSupport", q1090, Or.inl rfl⟩
theorem kst_J15_20 : JLS RJ15 20 "jdk/internal/util/ArraysSupport" "LOG2_ARRAY_LONG_INDEX_SCALE" "I" := ⟨"jdk/internal/util/ArraysSupport", q1095, Or.inl rfl⟩
theorem kst_J15_26 : JLS RJ15 26 "jdk/internal/util/ArraysSupport" "U" "Ljdk/internal/misc/Unsafe;" := ⟨"jdk/internal/util/ArraysSupport", q1097, Or.inl rfl⟩
theorem kst_J15_36 : JLS RJ15 36 "jdk/internal/util/ArraysSupport" "BIG_ENDIAN" "Z" := ⟨"jdk/internal/util/ArraysSupport", q1151, Or.inl rfl⟩
theorem kst_J15_46 : JLS RJ15 46 "jdk/internal/util/ArraysSupport" "LOG2_BYTE_BIT_SIZE" "I" := ⟨"jdk/internal/util/ArraysSupport", q1160, Or.inl rfl⟩
theorem kst_J15_51 : JLS RJ15 51 "jdk/internal/util/ArraysSupport" "LOG2_ARRAY_INT_INDEX_SCALE" "I" := ⟨"jdk/internal/util/ArraysSupport", q1168, Or.inl rfl⟩
theorem ks_J21_50 : JS RJ21 50 yJ21_getChar cJ21_getChar 2 (some .char) 2 := ⟨q1189, q1190, q109, q1191, ⟨by decide +kernel, by decide +kernel, by decide +kernel⟩, by decide⟩
theorem km_J9_183 : JMn RJ9 183 := ⟨q1198, q568, q101, q569⟩
theorem ks_J21_54 : JS RJ21 54 yJ21_length cJ21_length 1 (some .int) 1 := ⟨q1202, q1203, q109, q1204, ⟨by decide +kernel, by decide +kernel, by decide +kernel⟩, by decide⟩
theorem ks_J21_58 : JS RJ21 58 yJ9_length cJ9_length 1 (some .int) 1 := ⟨q1205, q722, q92, q723, ⟨by decide +kernel, by decide +kernel, by decide +kernel⟩, by decide⟩
theorem ks_J21_65 : JS RJ21 65 yJ9_getChar cJ9_getChar 2 (some .char) 2 := ⟨q1209, q717, q92, q718, ⟨by decide +kernel, by decide +kernel, by decide +kernel⟩, by decide⟩
theorem kn_J7_24 : JLN RJ7 24 14 [.null, .int 0, .int 0, .int 0] := ⟨(RJ7, TJ7, 4), rfl, in_J7, ⟨tyJ7, tyJ7_ok, fun j hj => by have hj : j < 4 := hj; rcases (show j = 0 ∨ j = 1 ∨ j = 2 ∨ j = 3 by omega) with rfl | rfl | rfl | rfl <;> rfl⟩, q1220, q244, q90⟩
theorem kc_J7_24 : JLC RJ7 24 14 := ⟨"java/lang/StringBuilder", (RJ7, TJ7, 4), rfl, q1220, Or.inl rfl⟩
theorem ks_J9_180 : JS RJ9 180 yJ9_checkOffset cJ9_checkOffset 2 none 2 := ⟨q1232, q1233, q92, q1234, ⟨by decide +kernel, by decide +kernel, by decide +kernel⟩, by decide⟩
theorem ks_J9_417 : JS RJ9 417 yJ8_checkOffset cJ8_checkOffset 2 none 2 := ⟨q1235, q1236, q91, q1237, ⟨by decide +kernel, by decide +kernel, by decide +kernel⟩, by decide⟩
theorem ks_J21_62 : JS RJ21 62 yJ8_checkOffset cJ8_checkOffset 2 none 2 := ⟨q1241, q1236, q91, q1237, ⟨by decide +kernel, by decide +kernel, by decide +kernel⟩, by decide⟩
theorem kv_J1_186 : JV RJ1 186 9 yJ1_newNode cJ1_newNode 5 (some (.object "java/util/HashMap$Node")) 4 := ⟨(RJ1, TJ1, 8), rfl, rfl, q1260, q1261, q1262, q84, q1263, ⟨by decide +kernel, by decide +kernel, by decide +kernel⟩, by decide⟩
theorem ku_J1_173_0 : JU RJ1 173 0 ⟨"java/lang/Object", "equals", "(Ljava/lang/Object;)Z"⟩ yJ35_equals cJ35_equals 2 (some .boolean) 1 := ⟨(RX1, TX1, 7), "java/lang/Object", rfl, q1265, q1267, q1268, q1266, q2995, q1309, Or.inl rfl, ⟨by decide +kernel, by decide +kernel, by decide +kernel⟩, by decide⟩
theorem ku_J1_173_2 : JU RJ1 173 2 ⟨"java/lang/Object", "equals", "(Ljava/lang/Object;)Z"⟩ yJ35_equals cJ35_equals 2 (some .boolean) 1 := ⟨(RX5, TX5, 6), "java/lang/Object", rfl, q1265, q1267, q1269, q1266, q2995, q1309, Or.inl rfl, ⟨by decide +kernel, by decide +kernel, by decide +kernel⟩, by decide⟩
theorem ku_J1_173_1 : JU RJ1 173 1 ⟨"java/lang/Object", "equals", "(Ljava/lang/Object;)Z"⟩ yJ35_equals cJ35_equals 2 (some .boolean) 1 := ⟨(RX2, TX2, 6), "java/lang/Object", rfl, q1265, q1267, q1270, q1266, q2995, q1309, Or.inl rfl, ⟨by decide +kernel, by decide +kernel, by decide +kernel⟩, by decide⟩
theorem ku_J1_173_5 : JU RJ1 173 5 ⟨"java/lang/Object", "equals", "(Ljava/lang/Object;)Z"⟩ yJ35_equals cJ35_equals 2 (some .boolean) 1 := ⟨(RX7, TX7, 2), "java/lang/Object", rfl, q1265, q1267, q1271, q1266, q2995, q1309, Or.inl rfl, ⟨by decide +kernel, by decide +kernel, by decide +kernel⟩, by decide⟩
theorem ku_J1_173_6 : JU RJ1 173 6 ⟨"java/lang/Object", "equals", "(Ljava/lang/Object;)Z"⟩ yJ35_equals cJ35_equals 2 (some .boolean) 1 := ⟨(RX8, TX8, 2), "java/lang/Object", rfl, q1265, q1267, q1272, q1266, q2995, q1309, Or.inl rfl, ⟨by decide +kernel, by decide +kernel, by decide +kernel⟩, by decide⟩
theorem ku_J1_173_3 : JU RJ1 173 3 ⟨"java/lang/Object", "equals", "(Ljava/lang/Object;)Z"⟩ yJ35_equals cJ35_equals 2 (some .boolean) 1 := ⟨(RX4, TX4, 5), "java/lang/Object", rfl, q1265, q1267, q1273, q1266, q2995, q1309, Or.inl rfl, ⟨by decide +kernel, by decide +kernel, by decide +kernel⟩, by decide⟩
theorem ku_J1_173_4 : JU RJ1 173 4 ⟨"java/lang/Object", "equals", "(Ljava/lang/Object;)Z"⟩ yX6_equals cX6_equals 3 (some .boolean) 1 := ⟨(RX6, TX6, 2), "java/lang/Object", rfl, q1265, q1267, q1274, q1275, q119, q1276, Or.inr (Or.inl ⟨q1266, _, _, _, q1309⟩), ⟨by decide +kernel, by decide +kernel, by decide +kernel⟩, by decide⟩
theorem ku_J1_173_7 : JU RJ1 173 7 ⟨"java/lang/Object", "equals", "(Ljava/lang/Object;)Z"⟩ yJ35_equals cJ35_equals 2 (some .boolean) 1 := ⟨(RX9, TX9, 7), "java/lang/Object", rfl, q1265, q1267, q1278, q1266, q2995, q1309, Or.inl rfl, ⟨by decide +kernel, by decide +kernel, by decide +kernel⟩, by decide⟩
theorem ku_J1_173_8 : JU RJ1 173 8 ⟨"java/lang/Object", "equals", "(Ljava/lang/Object;)Z"⟩ yJ35_equals cJ35_equals 2 (some .boolean) 1 := ⟨(RX3, TX3, 17), "java/lang/Object", rfl, q1265, q1267, q1279, q1266, q2995, q1309, Or.inl rfl, ⟨by decide +kernel, by decide +kernel, by decide +kernel⟩, by decide⟩
theorem ku_J1_173_16 : JU RJ1 173 16 ⟨"java/lang/Object", "equals", "(Ljava/lang/Object;)Z"⟩ yJ19_equals cJ19_equals 2 (some .boolean) 1 := ⟨(RJ19, TJ19, 1), "java/lang/Object", rfl, q1265, q1267, q1292, q1293, q106, q1294, Or.inr (Or.inl ⟨q1266, _, _, _, q1309⟩), ⟨by decide +kernel, by decide +kernel, by decide +kernel⟩, by decide⟩
theorem ku_J1_173_15 : JU RJ1 173 15 ⟨"java/lang/Object", "equals", "(Ljava/lang/Object;)Z"⟩ yJ8_equals cJ8_equals 3 (some .boolean) 1 := ⟨(RJ8, TJ8, 4), "java/lang/Object", rfl, q1265, q1267, q1299, q1300, q91, q1301, Or.inr (Or.inl ⟨q1266, _, _, _, q1309⟩), ⟨by decide +kernel, by decide +kernel, by decide +kernel⟩, by decide⟩
theorem ku_J1_173_14 : JU RJ1 173 14 ⟨"java/lang/Object", "equals", "(Ljava/lang/Object;)Z"⟩ yJ35_equals cJ35_equals 2 (some .boolean) 1 := ⟨(RJ7, TJ7, 4), "java/lang/Object", rfl, q1265, q1267, q1305, q1266, q2995, q1309, Or.inl rfl, ⟨by decide +kernel, by decide +kernel, by decide +kernel⟩, by decide⟩
theorem kn_X6_8 : JLN RX6 8 4 [.int 0, .int 0] := ⟨(RX6, TX6, 2), rfl, in_X6, ⟨tyX6, tyX6_ok, fun j hj => by have hj : j < 2 := hj; rcases (show j = 0 ∨ j = 1 by omega) with rfl | rfl <;> rfl⟩, q1277, q1404, q119⟩
theorem kc_X6_8 : JLC RX6 8 4 := ⟨"CloudInterviews$Reference", (RX6, TX6, 2), rfl, q1277, Or.inl rfl⟩
theorem kv_J19_211 : JV RJ19 211 16 yJ19_intValue cJ19_intValue 1 (some .int) 0 := ⟨(RJ19, TJ19, 1), rfl, rfl, q1295, q1296, q1297, q106, q1298, ⟨by decide +kernel, by decide +kernel, by decide +kernel⟩, by decide⟩
theorem ks_J8_541 : JS RJ8 541 yJ21_equals cJ21_equals 3 (some .boolean) 2 := ⟨q1302, q1303, q109, q1304, ⟨by decide +kernel, by decide +kernel, by decide +kernel⟩, by decide⟩
theorem kv_J1_194 : JV RJ1 194 9 yJ1_treeifyBin cJ1_treeifyBin 9 none 2 := ⟨(RJ1, TJ1, 8), rfl, rfl, q1360, q1361, q1362, q84, q1363, ⟨by decide +kernel, by decide +kernel, by decide +kernel⟩, by decide⟩
theorem kv_J1_198 : JV RJ1 198 9 yJ1_afterNodeAccess cJ1_afterNodeAccess 2 none 1 := ⟨(RJ1, TJ1, 8), rfl, rfl, q1369, q1370, q1371, q84, q1372, ⟨by decide +kernel, by decide +kernel, by decide +kernel⟩, by decide⟩
theorem kv_J1_205 : JV RJ1 205 9 yJ1_afterNodeInsertion cJ1_afterNodeInsertion 2 none 1 := ⟨(RJ1, TJ1, 8), rfl, rfl, q1373, q1374, q1375, q84, q1376, ⟨by decide +kernel, by decide +kernel, by decide +kernel⟩, by decide⟩
theorem kv_X2_79 : JV RX2 79 1 yX2_indexOf cX2_indexOf 3 (some .int) 1 := ⟨(RX2, TX2, 6), rfl, rfl, q1377, q1378, q1379, q82, q1380, ⟨by decide +kernel, by decide +kernel, by decide +kernel⟩, by decide⟩
theorem kv_X2_83 : JV RX2 83 11 yJ4_get cJ4_get 2 (some (.object "java/lang/Object")) 1 := ⟨(RJ4, TJ4, 3), rfl, rfl, q1381, q1382, q1383, q87, q1384, ⟨by decide +kernel, by decide +kernel, by decide +kernel⟩, by decide⟩
theorem ks_J4_118 : JS RJ4 118 yJ29_checkIndex cJ29_checkIndex 2 (some .int) 2 := ⟨q1385, q1386, q118, q1387, ⟨by decide +kernel, by decide +kernel, by decide +kernel⟩, by decide⟩
theorem ks_J29_105 : JS RJ29 105 yJ23_checkIndex cJ23_checkIndex 3 (some .int) 3 := ⟨q1388, q1389, q111, q1390, ⟨by decide +kernel, by decide +kernel, by decide +kernel⟩, by decide⟩
theorem kv_J4_123 : JV RJ4 123 11 yJ4_elementData cJ4_elementData 2 (some (.object "java/lang/Object")) 1 := ⟨(RJ4, TJ4, 3), rfl, rfl, q1391, q1392, q1393, q87, q1394, ⟨by decide +kernel, by decide +kernel, by decide +kernel⟩, by decide⟩
theorem kv_X2_87 : JV RX2 87 3 yX4_fill cX4_fill 2 none 1 := ⟨(RX4, TX4, 5), rfl, rfl, q1395, q1396, q1397, q99, q1398, ⟨by decide +kernel, by decide +kernel, by decide +kernel⟩, by decide⟩
theorem kv_X2_94 : JV RX2 94 1 yX2_hasReference cX2_hasReference 3 (some .boolean) 2 := ⟨(RX2, TX2, 6), rfl, rfl, q1399, q1400, q1401, q82, q1402, ⟨by decide +kernel, by decide +kernel, by decide +kernel⟩, by decide⟩
theorem kn_X2_129 : JLN RX2 129 4 [.int 0, .int 0] := ⟨(RX6, TX6, 2), rfl, in_X6, ⟨tyX6, tyX6_ok, fun j hj => by have hj : j < 2 := hj; rcases (show j = 0 ∨ j = 1 by omega) with rfl | rfl <;> rfl⟩, q1403, q1404, q119⟩
theorem kc_X2_129 : JLC RX2 129 4 := ⟨"CloudInterviews$Reference", (RX6, TX6, 2), rfl, q1403, Or.inl rfl⟩
theorem ki_X2_131 : JI RX2 131 yX6_init cX6_init 3 2 := ⟨q1405, q1406, q119, q1407, rfl, ⟨by decide +kernel, by decide +kernel, by decide +kernel⟩, by decide⟩
theorem ko_X6_1 : JLO RX6 1 := ⟨q1408, q134, q135⟩
theorem kg_X6_7 : JLG RX6 7 4 0 := ⟨"CloudInterviews$Reference", (RX6, TX6, 2), rfl, in_X6, by decide, Or.inl q1409, Or.inl rfl⟩
theorem kp_X6_7 : JLP RX6 7 4 0 .int true := ⟨kg_X6_7, fun r hr => by obtain rfl : (RX6, TX6, 2) = r := Option.some.inj hr; exact ⟨⟨tyX6, tyX6_ok, rfl⟩, nmX6, rfl, fun _ => rfl⟩⟩
theorem kg_X6_13 : JLG RX6 13 4 1 := ⟨"CloudInterviews$Reference", (RX6, TX6, 2), rfl, in_X6, by decide, Or.inl q1410, Or.inl rfl⟩
theorem kp_X6_13 : JLP RX6 13 4 1 .int true := ⟨kg_X6_13, fun r hr => by obtain rfl : (RX6, TX6, 2) = r := Option.some.inj hr; exact ⟨⟨tyX6, tyX6_ok, rfl⟩, nmX6, rfl, fun _ => rfl⟩⟩
theorem kv_X2_133 : JV RX2 133 9 yJ1_containsKey cJ1_containsKey 2 (some .boolean) 1 := ⟨(RJ1, TJ1, 8), rfl, rfl, q1416, q1417, q1418, q84, q1419, ⟨by decide +kernel, by decide +kernel, by decide +kernel⟩, by decide⟩
theorem kv_J1_158 : JV RJ1 158 9 yJ1_getNode cJ1_getNode 8 (some (.object "java/util/HashMap$Node")) 1 := ⟨(RJ1, TJ1, 8), rfl, rfl, q1420, q1421, q1422, q84, q1423, ⟨by decide +kernel, by decide +kernel, by decide +kernel⟩, by decide⟩
theorem kv_X2_98 : JV RX2 98 1 yX2_setReference cX2_setReference 5 none 3 := ⟨(RX2, TX2, 6), rfl, rfl, q1428, q1430, qs6, q82, q1431, ⟨by decide +kernel, by decide +kernel, by decide +kernel⟩, by decide⟩
theorem ks_X2_136 : JS RX2 136 yJ20_valueOf cJ20_valueOf 1 (some (.object "java/lang/Boolean")) 1 := ⟨q1432, q1433, q108, q1434, ⟨by decide +kernel, by decide +kernel, by decide +kernel⟩, by decide⟩
theorem kst_J20_27 : JLS RJ20 27 "java/lang/Boolean" "TRUE" "Ljava/lang/Boolean;" := ⟨"java/lang/Boolean", q1435, Or.inl rfl⟩
theorem kst_J20_31 : JLS RJ20 31 "java/lang/Boolean" "FALSE" "Ljava/lang/Boolean;" := ⟨"java/lang/Boolean", q1437, Or.inl rfl⟩
theorem kv_X2_141 : JV RX2 141 9 yJ1_remove cJ1_remove 3 (some (.object "java/lang/Object")) 1 := ⟨(RJ1, TJ1, 8), rfl, rfl, q1440, q1441, q1442, q84, q1443, ⟨by decide +kernel, by decide +kernel, by decide +kernel⟩, by decide⟩
theorem kv_J1_228 : JV RJ1 228 9 yJ1_removeNode cJ1_removeNode 14 (some (.object "java/util/HashMap$Node")) 5 := ⟨(RJ1, TJ1, 8), rfl, rfl, q1444, q1445, q1446, q84, q1447, ⟨by decide +kernel, by decide +kernel, by decide +kernel⟩, by decide⟩
theorem kv_J1_236 : JV RJ1 236 9 yJ1_afterNodeRemoval cJ1_afterNodeRemoval 2 none 1 := ⟨(RJ1, TJ1, 8), rfl, rfl, q1455, q1456, q1457, q84, q1458, ⟨by decide +kernel, by decide +kernel, by decide +kernel⟩, by decide⟩
theorem kn_X1_81 : JLN RX1 81 5 [.null, .null] := ⟨(RX7, TX7, 2), rfl, in_X7, ⟨tyX7, tyX7_ok, fun j hj => by have hj : j < 2 := hj; rcases (show j = 0 ∨ j = 1 by omega) with rfl | rfl <;> rfl⟩, q1459, q1460, q120⟩
theorem kc_X1_81 : JLC RX1 81 5 := ⟨"CloudInterviews$Command", (RX7, TX7, 2), rfl, q1459, Or.inl rfl⟩
theorem ki_X1_83 : JI RX1 83 yX7_init cX7_init 3 2 := ⟨q1461, q1462, q120, q1463, rfl, ⟨by decide +kernel, by decide +kernel, by decide +kernel⟩, by decide⟩
theorem ko_X7_1 : JLO RX7 1 := ⟨q1464, q134, q135⟩
theorem kg_X7_7 : JLG RX7 7 5 0 := ⟨"CloudInterviews$Command", (RX7, TX7, 2), rfl, in_X7, by decide, Or.inl q1465, Or.inl rfl⟩
theorem kp_X7_7 : JLP RX7 7 5 0 (.object "java/lang/String") true := ⟨kg_X7_7, fun r hr => by obtain rfl : (RX7, TX7, 2) = r := Option.some.inj hr; exact ⟨⟨tyX7, tyX7_ok, rfl⟩, nmX7, rfl, fun _ => rfl⟩⟩
theorem kg_X7_13 : JLG RX7 13 5 1 := ⟨"CloudInterviews$Command", (RX7, TX7, 2), rfl, in_X7, by decide, Or.inl q1466, Or.inl rfl⟩
theorem kp_X7_13 : JLP RX7 13 5 1 (.array .int) true := ⟨kg_X7_13, fun r hr => by obtain rfl : (RX7, TX7, 2) = r := Option.some.inj hr; exact ⟨⟨tyX7, tyX7_ok, rfl⟩, nmX7, rfl, fun _ => rfl⟩⟩
theorem kv_X1_86 : JV RX1 86 5 yX7_runOn cX7_runOn 4 (some .int) 1 := ⟨(RX7, TX7, 2), rfl, rfl, q1472, q1473, q1474, q120, q1475, ⟨by decide +kernel, by decide +kernel, by decide +kernel⟩, by decide⟩
theorem kv_X7_17 : JV RX7 17 15 yJ8_hashCode cJ8_hashCode 2 (some .int) 0 := ⟨(RJ8, TJ8, 4), rfl, rfl, q1476, q684, q2990, q91, q685, ⟨by decide +kernel, by decide +kernel, by decide +kernel⟩, by decide⟩
theorem kv_X7_25 : JV RX7 25 15 yJ8_equals cJ8_equals 3 (some .boolean) 1 := ⟨(RJ8, TJ8, 4), rfl, rfl, q1478, q1300, q2991, q91, q1301, ⟨by decide +kernel, by decide +kernel, by decide +kernel⟩, by decide⟩
theorem kv_X7_49 : JV RX7 49 1 yX2_addApplicant cX2_addApplicant 5 (some .int) 3 := ⟨(RX2, TX2, 6), rfl, rfl, q1489, q1490, q1491, q82, q1492, ⟨by decide +kernel, by decide +kernel, by decide +kernel⟩, by decide⟩
theorem ks_X2_175 : JSN RX2 175 yX1_isShape cX1_isShape 1 (some .boolean) 1 := ⟨⟨"CloudInterviews", q1493⟩, q1494, q81, q1495, ⟨by decide +kernel, by decide +kernel, by decide +kernel⟩, by decide⟩
theorem ks_X2_181 : JSN RX2 181 yX1_inRange cX1_inRange 6 (some .boolean) 3 := ⟨⟨"CloudInterviews", q1497⟩, q1498, q81, q1499, ⟨by decide +kernel, by decide +kernel, by decide +kernel⟩, by decide⟩
theorem ks_X2_148 : JSN RX2 148 yX1_checkArgument cX1_checkArgument 1 none 1 := ⟨⟨"CloudInterviews", q1501⟩, q1502, q81, q1503, ⟨by decide +kernel, by decide +kernel, by decide +kernel⟩, by decide⟩
theorem kv_X2_118 : JV RX2 118 11 yJ4_size cJ4_size 1 (some .int) 0 := ⟨(RJ4, TJ4, 3), rfl, rfl, q1509, q303, q304, q87, q305, ⟨by decide +kernel, by decide +kernel, by decide +kernel⟩, by decide⟩
theorem ks_X2_151 : JSN RX2 151 yX1_checkState cX1_checkState 1 none 1 := ⟨⟨"CloudInterviews", q1510⟩, q1511, q81, q1512, ⟨by decide +kernel, by decide +kernel, by decide +kernel⟩, by decide⟩
theorem ki_X2_187 : JI RX2 187 yX5_init cX5_init 6 5 := ⟨q1528, q582, q104, q583, rfl, ⟨by decide +kernel, by decide +kernel, by decide +kernel⟩, by decide⟩
theorem kv_X7_55 : JV RX7 55 1 yX2_remove cX2_remove 5 (some .int) 1 := ⟨(RX2, TX2, 6), rfl, rfl, q1529, q1530, q1531, q82, q1532, ⟨by decide +kernel, by decide +kernel, by decide +kernel⟩, by decide⟩
theorem kv_X2_144 : JV RX2 144 1 yX2_applicant cX2_applicant 3 (some (.object "CloudInterviews$Applicant")) 1 := ⟨(RX2, TX2, 6), rfl, rfl, q1533, q1534, q1535, q82, q1536, ⟨by decide +kernel, by decide +kernel, by decide +kernel⟩, by decide⟩
theorem kv_X2_111 : JV RX2 111 9 yJ1_get cJ1_get 3 (some (.object "java/lang/Object")) 1 := ⟨(RJ1, TJ1, 8), rfl, rfl, q1537, q1538, q1539, q84, q1540, ⟨by decide +kernel, by decide +kernel, by decide +kernel⟩, by decide⟩
theorem ks_X2_114 : JSN RX2 114 yX1_checkElement cX1_checkElement 1 none 1 := ⟨⟨"CloudInterviews", q1541⟩, q1542, q81, q1543, ⟨by decide +kernel, by decide +kernel, by decide +kernel⟩, by decide⟩
theorem kv_X2_190 : JV RX2 190 3 yX4_empty cX4_empty 2 (some (.object "CloudInterviews$Applicant")) 0 := ⟨(RX4, TX4, 5), rfl, rfl, q1546, q1547, q1548, q99, q1549, ⟨by decide +kernel, by decide +kernel, by decide +kernel⟩, by decide⟩
theorem kv_X2_193 : JV RX2 193 11 yJ4_remove cJ4_remove 5 (some .boolean) 1 := ⟨(RJ4, TJ4, 3), rfl, rfl, q1550, q1551, q1552, q87, q1553, ⟨by decide +kernel, by decide +kernel, by decide +kernel⟩, by decide⟩
theorem ku_J4_93_0 : JU RJ4 93 0 ⟨"java/lang/Object", "equals", "(Ljava/lang/Object;)Z"⟩ yJ35_equals cJ35_equals 2 (some .boolean) 1 := ⟨(RX1, TX1, 7), "java/lang/Object", rfl, q1554, q1267, q1268, q1266, q2995, q1309, Or.inl rfl, ⟨by decide +kernel, by decide +kernel, by decide +kernel⟩, by decide⟩
theorem ku_J4_93_2 : JU RJ4 93 2 ⟨"java/lang/Object", "equals", "(Ljava/lang/Object;)Z"⟩ yJ35_equals cJ35_equals 2 (some .boolean) 1 := ⟨(RX5, TX5, 6), "java/lang/Object", rfl, q1554, q1267, q1269, q1266, q2995, q1309, Or.inl rfl, ⟨by decide +kernel, by decide +kernel, by decide +kernel⟩, by decide⟩
theorem ku_J4_93_1 : JU RJ4 93 1 ⟨"java/lang/Object", "equals", "(Ljava/lang/Object;)Z"⟩ yJ35_equals cJ35_equals 2 (some .boolean) 1 := ⟨(RX2, TX2, 6), "java/lang/Object", rfl, q1554, q1267, q1270, q1266, q2995, q1309, Or.inl rfl, ⟨by decide +kernel, by decide +kernel, by decide +kernel⟩, by decide⟩
theorem ku_J4_93_5 : JU RJ4 93 5 ⟨"java/lang/Object", "equals", "(Ljava/lang/Object;)Z"⟩ yJ35_equals cJ35_equals 2 (some .boolean) 1 := ⟨(RX7, TX7, 2), "java/lang/Object", rfl, q1554, q1267, q1271, q1266, q2995, q1309, Or.inl rfl, ⟨by decide +kernel, by decide +kernel, by decide +kernel⟩, by decide⟩
theorem ku_J4_93_6 : JU RJ4 93 6 ⟨"java/lang/Object", "equals", "(Ljava/lang/Object;)Z"⟩ yJ35_equals cJ35_equals 2 (some .boolean) 1 := ⟨(RX8, TX8, 2), "java/lang/Object", rfl, q1554, q1267, q1272, q1266, q2995, q1309, Or.inl rfl, ⟨by decide +kernel, by decide +kernel, by decide +kernel⟩, by decide⟩
theorem ku_J4_93_3 : JU RJ4 93 3 ⟨"java/lang/Object", "equals", "(Ljava/lang/Object;)Z"⟩ yJ35_equals cJ35_equals 2 (some .boolean) 1 := ⟨(RX4, TX4, 5), "java/lang/Object", rfl, q1554, q1267, q1273, q1266, q2995, q1309, Or.inl rfl, ⟨by decide +kernel, by decide +kernel, by decide +kernel⟩, by decide⟩
theorem ku_J4_93_4 : JU RJ4 93 4 ⟨"java/lang/Object", "equals", "(Ljava/lang/Object;)Z"⟩ yX6_equals cX6_equals 3 (some .boolean) 1 := ⟨(RX6, TX6, 2), "java/lang/Object", rfl, q1554, q1267, q1274, q1275, q119, q1276, Or.inr (Or.inl ⟨q1266, _, _, _, q1309⟩), ⟨by decide +kernel, by decide +kernel, by decide +kernel⟩, by decide⟩
theorem ku_J4_93_7 : JU RJ4 93 7 ⟨"java/lang/Object", "equals", "(Ljava/lang/Object;)Z"⟩ yJ35_equals cJ35_equals 2 (some .boolean) 1 := ⟨(RX9, TX9, 7), "java/lang/Object", rfl, q1554, q1267, q1278, q1266, q2995, q1309, Or.inl rfl, ⟨by decide +kernel, by decide +kernel, by decide +kernel⟩, by decide⟩
theorem ku_J4_93_8 : JU RJ4 93 8 ⟨"java/lang/Object", "equals", "(Ljava/lang/Object;)Z"⟩ yJ35_equals cJ35_equals 2 (some .boolean) 1 := ⟨(RX3, TX3, 17), "java/lang/Object", rfl, q1554, q1267, q1279, q1266, q2995, q1309, Or.inl rfl, ⟨by decide +kernel, by decide +kernel, by decide +kernel⟩, by decide⟩
theorem ku_J4_93_16 : JU RJ4 93 16 ⟨"java/lang/Object", "equals", "(Ljava/lang/Object;)Z"⟩ yJ19_equals cJ19_equals 2 (some .boolean) 1 := ⟨(RJ19, TJ19, 1), "java/lang/Object", rfl, q1554, q1267, q1292, q1293, q106, q1294, Or.inr (Or.inl ⟨q1266, _, _, _, q1309⟩), ⟨by decide +kernel, by decide +kernel, by decide +kernel⟩, by decide⟩
theorem ku_J4_93_15 : JU RJ4 93 15 ⟨"java/lang/Object", "equals", "(Ljava/lang/Object;)Z"⟩ yJ8_equals cJ8_equals 3 (some .boolean) 1 := ⟨(RJ8, TJ8, 4), "java/lang/Object", rfl, q1554, q1267, q1299, q1300, q91, q1301, Or.inr (Or.inl ⟨q1266, _, _, _, q1309⟩), ⟨by decide +kernel, by decide +kernel, by decide +kernel⟩, by decide⟩
theorem ku_J4_93_14 : JU RJ4 93 14 ⟨"java/lang/Object", "equals", "(Ljava/lang/Object;)Z"⟩ yJ35_equals cJ35_equals 2 (some .boolean) 1 := ⟨(RJ7, TJ7, 4), "java/lang/Object", rfl, q1554, q1267, q1305, q1266, q2995, q1309, Or.inl rfl, ⟨by decide +kernel, by decide +kernel, by decide +kernel⟩, by decide⟩
theorem kv_J4_144 : JV RJ4 144 11 yJ4_fastRemove cJ4_fastRemove 4 none 2 := ⟨(RJ4, TJ4, 3), rfl, rfl, q1555, q1557, qs7, q87, q1558, ⟨by decide +kernel, by decide +kernel, by decide +kernel⟩, by decide⟩
theorem kcp_J4_112 : JCp RJ4 112 := ⟨q1559, q572, q571, q103⟩
theorem kv_X7_59 : JV RX7 59 1 yX2_open cX2_open 6 (some .int) 4 := ⟨(RX2, TX2, 6), rfl, rfl, q1560, q1561, q1562, q82, q1563, ⟨by decide +kernel, by decide +kernel, by decide +kernel⟩, by decide⟩
theorem ki_X2_202 : JI RX2 202 yX4_init cX4_init 5 4 := ⟨q1565, q473, q99, q474, rfl, ⟨by decide +kernel, by decide +kernel, by decide +kernel⟩, by decide⟩
theorem kv_X7_63 : JV RX7 63 1 yX2_close cX2_close 5 (some .int) 1 := ⟨(RX2, TX2, 6), rfl, rfl, q1566, q1567, q1568, q82, q1569, ⟨by decide +kernel, by decide +kernel, by decide +kernel⟩, by decide⟩
theorem kv_X2_205 : JV RX2 205 1 yX2_post cX2_post 2 (some (.object "CloudInterviews$Post")) 1 := ⟨(RX2, TX2, 6), rfl, rfl, q1570, q1571, q1572, q82, q1573, ⟨by decide +kernel, by decide +kernel, by decide +kernel⟩, by decide⟩
theorem ks_X2_122 : JSN RX2 122 yX1_checkIndex cX1_checkIndex 2 none 2 := ⟨⟨"CloudInterviews", q1574⟩, q1575, q81, q1576, ⟨by decide +kernel, by decide +kernel, by decide +kernel⟩, by decide⟩
theorem ks_X1_7 : JS RX1 7 yX1_inRange cX1_inRange 6 (some .boolean) 3 := ⟨q1577, q1498, q81, q1499, ⟨by decide +kernel, by decide +kernel, by decide +kernel⟩, by decide⟩
theorem kv_X2_208 : JV RX2 208 11 yJ4_remove_2 cJ4_remove_2 4 (some (.object "java/lang/Object")) 1 := ⟨(RJ4, TJ4, 3), rfl, rfl, q1593, q1594, q1595, q87, q1596, ⟨by decide +kernel, by decide +kernel, by decide +kernel⟩, by decide⟩
theorem kv_X7_66 : JV RX7 66 1 yX2_hire cX2_hire 5 (some .int) 2 := ⟨(RX2, TX2, 6), rfl, rfl, q1597, q1598, q1599, q82, q1600, ⟨by decide +kernel, by decide +kernel, by decide +kernel⟩, by decide⟩
theorem kv_X2_210 : JV RX2 210 3 yX4_fits cX4_fits 3 (some .boolean) 1 := ⟨(RX4, TX4, 5), rfl, rfl, q1601, q1602, q1603, q99, q1604, ⟨by decide +kernel, by decide +kernel, by decide +kernel⟩, by decide⟩
theorem ks_X2_218 : JSN RX2 218 yX1_checkSupported cX1_checkSupported 1 none 1 := ⟨⟨"CloudInterviews", q1605⟩, q1606, q81, q1607, ⟨by decide +kernel, by decide +kernel, by decide +kernel⟩, by decide⟩
theorem kv_X2_221 : JV RX2 221 1 yX2_vacant cX2_vacant 4 (some .int) 0 := ⟨(RX2, TX2, 6), rfl, rfl, q1623, q443, q444, q82, q445, ⟨by decide +kernel, by decide +kernel, by decide +kernel⟩, by decide⟩
theorem kv_X7_70 : JV RX7 70 1 yX2_dismiss cX2_dismiss 3 (some .int) 1 := ⟨(RX2, TX2, 6), rfl, rfl, q1624, q1625, q1626, q82, q1627, ⟨by decide +kernel, by decide +kernel, by decide +kernel⟩, by decide⟩
theorem kv_X7_73 : JV RX7 73 1 yX2_addReference cX2_addReference 5 (some .int) 2 := ⟨(RX2, TX2, 6), rfl, rfl, q1628, q1629, q1630, q82, q1631, ⟨by decide +kernel, by decide +kernel, by decide +kernel⟩, by decide⟩
theorem kv_X2_154 : JV RX2 154 1 yX2_referencesFor cX2_referencesFor 5 (some .int) 1 := ⟨(RX2, TX2, 6), rfl, rfl, q1632, q1633, q1634, q82, q1635, ⟨by decide +kernel, by decide +kernel, by decide +kernel⟩, by decide⟩
theorem kv_X7_76 : JV RX7 76 1 yX2_match cX2_match 5 (some .int) 0 := ⟨(RX2, TX2, 6), rfl, rfl, q1636, q1637, q1638, q82, q1639, ⟨by decide +kernel, by decide +kernel, by decide +kernel⟩, by decide⟩
theorem kv_X2_231 : JV RX2 231 1 yX2_byPreference cX2_byPreference 5 (some (.object "java/util/ArrayList")) 0 := ⟨(RX2, TX2, 6), rfl, rfl, q1640, q1642, qs8, q82, q1643, ⟨by decide +kernel, by decide +kernel, by decide +kernel⟩, by decide⟩
theorem kv_X2_214 : JV RX2 214 1 yX2_isPreferred cX2_isPreferred 4 (some .boolean) 2 := ⟨(RX2, TX2, 6), rfl, rfl, q1644, q1645, q1646, q82, q1647, ⟨by decide +kernel, by decide +kernel, by decide +kernel⟩, by decide⟩
theorem kv_X2_228 : JV RX2 228 11 yJ4_add_3 cJ4_add_3 5 none 2 := ⟨(RJ4, TJ4, 3), rfl, rfl, q1648, q1649, q1650, q87, q1651, ⟨by decide +kernel, by decide +kernel, by decide +kernel⟩, by decide⟩
theorem kv_J4_135 : JV RJ4 135 11 yJ4_rangeCheckForAdd cJ4_rangeCheckForAdd 2 none 1 := ⟨(RJ4, TJ4, 3), rfl, rfl, q1652, q1654, qs9, q87, q1655, ⟨by decide +kernel, by decide +kernel, by decide +kernel⟩, by decide⟩
theorem kn_J4_20 : JLN RJ4 20 14 [.null, .int 0, .int 0, .int 0] := ⟨(RJ7, TJ7, 4), rfl, in_J7, ⟨tyJ7, tyJ7_ok, fun j hj => by have hj : j < 4 := hj; rcases (show j = 0 ∨ j = 1 ∨ j = 2 ∨ j = 3 by omega) with rfl | rfl | rfl | rfl <;> rfl⟩, q1661, q244, q90⟩
theorem kc_J4_20 : JLC RJ4 20 14 := ⟨"java/lang/StringBuilder", (RJ7, TJ7, 4), rfl, q1661, Or.inl rfl⟩
theorem ki_J4_22 : JI RJ4 22 yJ7_init cJ7_init 1 0 := ⟨q1662, q246, q90, q247, rfl, ⟨by decide +kernel, by decide +kernel, by decide +kernel⟩, by decide⟩
theorem kv_J4_25 : JV RJ4 25 14 yJ7_append cJ7_append 2 (some (.object "java/lang/StringBuilder")) 1 := ⟨(RJ7, TJ7, 4), rfl, rfl, q1664, q756, q757, q90, q758, ⟨by decide +kernel, by decide +kernel, by decide +kernel⟩, by decide⟩
theorem kv_J4_29 : JV RJ4 29 14 yJ7_append_2 cJ7_append_2 2 (some (.object "java/lang/StringBuilder")) 1 := ⟨(RJ7, TJ7, 4), rfl, rfl, q1665, q851, q852, q90, q853, ⟨by decide +kernel, by decide +kernel, by decide +kernel⟩, by decide⟩
theorem kv_J4_32 : JV RJ4 32 14 yJ7_toString cJ7_toString 1 (some (.object "java/lang/String")) 0 := ⟨(RJ7, TJ7, 4), rfl, rfl, q1667, q876, q877, q90, q878, ⟨by decide +kernel, by decide +kernel, by decide +kernel⟩, by decide⟩
theorem kv_X2_235 : JV RX2 235 1 yX2_propose cX2_propose 9 none 4 := ⟨(RX2, TX2, 6), rfl, rfl, q1673, q1675, qs11, q82, q1676, ⟨by decide +kernel, by decide +kernel, by decide +kernel⟩, by decide⟩
theorem kv_X2_171 : JV RX2 171 1 yX2_isBetter cX2_isBetter 4 (some .boolean) 2 := ⟨(RX2, TX2, 6), rfl, rfl, q1677, q1678, q1679, q82, q1680, ⟨by decide +kernel, by decide +kernel, by decide +kernel⟩, by decide⟩
theorem kv_X2_164 : JV RX2 164 1 yX2_score cX2_score 2 (some .int) 1 := ⟨(RX2, TX2, 6), rfl, rfl, q1681, q1682, q1683, q82, q1684, ⟨by decide +kernel, by decide +kernel, by decide +kernel⟩, by decide⟩
theorem kv_X7_78 : JV RX7 78 1 yX2_passDays cX2_passDays 4 (some .int) 1 := ⟨(RX2, TX2, 6), rfl, rfl, q1685, q1686, q1687, q82, q1688, ⟨by decide +kernel, by decide +kernel, by decide +kernel⟩, by decide⟩
theorem kv_X2_269 : JV RX2 269 1 yX2_passDay cX2_passDay 5 (some .int) 0 := ⟨(RX2, TX2, 6), rfl, rfl, q1690, q1692, qs12, q82, q1693, ⟨by decide +kernel, by decide +kernel, by decide +kernel⟩, by decide⟩
theorem km_X2_264 : JMn RX2 264 := ⟨q1694, q568, q101, q569⟩
theorem kv_X7_81 : JV RX7 81 1 yX2_hireBest cX2_hireBest 4 (some .int) 1 := ⟨(RX2, TX2, 6), rfl, rfl, q1695, q1696, q1697, q82, q1698, ⟨by decide +kernel, by decide +kernel, by decide +kernel⟩, by decide⟩
theorem kv_X2_224 : JV RX2 224 1 yX2_candidate cX2_candidate 6 (some (.object "CloudInterviews$Applicant")) 1 := ⟨(RX2, TX2, 6), rfl, rfl, q1699, q1700, q1701, q82, q1702, ⟨by decide +kernel, by decide +kernel, by decide +kernel⟩, by decide⟩
theorem kv_X7_84 : JV RX7 84 1 yX2_removeReference cX2_removeReference 5 (some .int) 2 := ⟨(RX2, TX2, 6), rfl, rfl, q1703, q1704, q1705, q82, q1706, ⟨by decide +kernel, by decide +kernel, by decide +kernel⟩, by decide⟩
theorem kv_X7_87 : JV RX7 87 1 yX2_rejectRainy cX2_rejectRainy 6 (some .int) 1 := ⟨(RX2, TX2, 6), rfl, rfl, q1707, q1708, q1709, q82, q1710, ⟨by decide +kernel, by decide +kernel, by decide +kernel⟩, by decide⟩
theorem kv_X2_198 : JV RX2 198 1 yX2_remove cX2_remove 5 (some .int) 1 := ⟨(RX2, TX2, 6), rfl, rfl, q1711, q1530, q1531, q82, q1532, ⟨by decide +kernel, by decide +kernel, by decide +kernel⟩, by decide⟩
theorem kv_X1_90 : JV RX1 90 0 yX1_become cX1_become 3 none 1 := ⟨(RX1, TX1, 7), rfl, rfl, q1712, q1714, qs13, q81, q1715, ⟨by decide +kernel, by decide +kernel, by decide +kernel⟩, by decide⟩
theorem kv_X1_65 : JV RX1 65 13 yJ5_size cJ5_size 1 (some .int) 0 := ⟨(RJ5, TJ5, 3), rfl, rfl, q1716, q1717, q1718, q88, q1719, ⟨by decide +kernel, by decide +kernel, by decide +kernel⟩, by decide⟩
theorem ks_J5_127 : JS RJ5 127 yJ5_sub cJ5_sub 3 (some .int) 3 := ⟨q1720, q1721, q88, q1722, ⟨by decide +kernel, by decide +kernel, by decide +kernel⟩, by decide⟩
theorem kv_X1_69 : JV RX1 69 13 yJ5_removeFirst cJ5_removeFirst 2 (some (.object "java/lang/Object")) 0 := ⟨(RJ5, TJ5, 3), rfl, rfl, q1723, q1724, q1725, q88, q1726, ⟨by decide +kernel, by decide +kernel, by decide +kernel⟩, by decide⟩
theorem kv_J5_93 : JV RJ5 93 13 yJ5_pollFirst cJ5_pollFirst 4 (some (.object "java/lang/Object")) 0 := ⟨(RJ5, TJ5, 3), rfl, rfl, q1727, q1728, q1729, q88, q1730, ⟨by decide +kernel, by decide +kernel, by decide +kernel⟩, by decide⟩
theorem ks_J5_103 : JS RJ5 103 yJ5_elementAt cJ5_elementAt 2 (some (.object "java/lang/Object")) 2 := ⟨q1731, q1732, q88, q1733, ⟨by decide +kernel, by decide +kernel, by decide +kernel⟩, by decide⟩
theorem ks_J5_74 : JS RJ5 74 yJ5_inc cJ5_inc 2 (some .int) 2 := ⟨q1734, q1735, q88, q1736, ⟨by decide +kernel, by decide +kernel, by decide +kernel⟩, by decide⟩
theorem kv_X1_73 : JV RX1 73 13 yJ5_addLast cJ5_addLast 3 none 1 := ⟨(RJ5, TJ5, 3), rfl, rfl, q1739, q1740, q1741, q88, q1742, ⟨by decide +kernel, by decide +kernel, by decide +kernel⟩, by decide⟩
theorem kv_J5_71 : JV RJ5 71 13 yJ5_grow cJ5_grow 9 none 1 := ⟨(RJ5, TJ5, 3), rfl, rfl, q1743, q1745, qs14, q88, q1746, ⟨by decide +kernel, by decide +kernel, by decide +kernel⟩, by decide⟩
theorem kv_J5_10 : JV RJ5 10 13 yJ5_newCapacity cJ5_newCapacity 5 (some .int) 2 := ⟨(RJ5, TJ5, 3), rfl, rfl, q1748, q1750, qs15, q88, q1751, ⟨by decide +kernel, by decide +kernel, by decide +kernel⟩, by decide⟩
theorem ks_J5_14 : JS RJ5 14 yJ17_copyOf cJ17_copyOf 2 (some (.array (.object "java/lang/Object"))) 2 := ⟨q1759, q528, q102, q529, ⟨by decide +kernel, by decide +kernel, by decide +kernel⟩, by decide⟩
theorem kcp_J5_27 : JCp RJ5 27 := ⟨q1760, q572, q571, q103⟩
theorem kv_X0_287 : JV RX0 287 0 yX1_mostHires cX1_mostHires 1 (some .int) 0 := ⟨(RX1, TX1, 7), rfl, rfl, q1761, q1762, q1763, q81, q1764, ⟨by decide +kernel, by decide +kernel, by decide +kernel⟩, by decide⟩
theorem kv_X1_237 : JV RX1 237 1 yX2_mostHires cX2_mostHires 5 (some .int) 0 := ⟨(RX2, TX2, 6), rfl, rfl, q1765, q1766, q1767, q82, q1768, ⟨by decide +kernel, by decide +kernel, by decide +kernel⟩, by decide⟩
theorem kv_X2_239 : JV RX2 239 1 yX2_augment cX2_augment 6 (some .boolean) 3 := ⟨(RX2, TX2, 6), rfl, rfl, q1769, q1771, qs16, q82, q1772, ⟨by decide +kernel, by decide +kernel, by decide +kernel⟩, by decide⟩
theorem kv_X0_291 : JV RX0 291 0 yX1_mostHiresBySets cX1_mostHiresBySets 1 (some .int) 0 := ⟨(RX1, TX1, 7), rfl, rfl, q1774, q1775, q1776, q81, q1777, ⟨by decide +kernel, by decide +kernel, by decide +kernel⟩, by decide⟩
theorem kv_X1_240 : JV RX1 240 1 yX2_mostHiresBySets cX2_mostHiresBySets 5 (some .int) 0 := ⟨(RX2, TX2, 6), rfl, rfl, q1778, q1779, q1780, q82, q1781, ⟨by decide +kernel, by decide +kernel, by decide +kernel⟩, by decide⟩
theorem kv_X2_243 : JV RX2 243 1 yX2_addPost cX2_addPost 7 none 3 := ⟨(RX2, TX2, 6), rfl, rfl, q1782, q1784, qs17, q82, q1785, ⟨by decide +kernel, by decide +kernel, by decide +kernel⟩, by decide⟩
theorem ks_X2_247 : JS RX2 247 yJ19_bitCount cJ19_bitCount 1 (some .int) 1 := ⟨q1786, q1787, q106, q1788, ⟨by decide +kernel, by decide +kernel, by decide +kernel⟩, by decide⟩
theorem km_X2_250 : JMx RX2 250 := ⟨q1792, q521, q101, q522⟩
theorem kv_X0_295 : JV RX0 295 0 yX1_blockingPairs cX1_blockingPairs 1 (some .int) 0 := ⟨(RX1, TX1, 7), rfl, rfl, q1793, q1794, q1795, q81, q1796, ⟨by decide +kernel, by decide +kernel, by decide +kernel⟩, by decide⟩
theorem kv_X1_243 : JV RX1 243 1 yX2_blockingPairs cX2_blockingPairs 7 (some .int) 0 := ⟨(RX2, TX2, 6), rfl, rfl, q1797, q1798, q1799, q82, q1800, ⟨by decide +kernel, by decide +kernel, by decide +kernel⟩, by decide⟩
theorem kv_X2_260 : JV RX2 260 1 yX2_wouldTake cX2_wouldTake 3 (some .boolean) 2 := ⟨(RX2, TX2, 6), rfl, rfl, q1801, q1803, qs18, q82, q1804, ⟨by decide +kernel, by decide +kernel, by decide +kernel⟩, by decide⟩
theorem kv_X0_299 : JV RX0 299 0 yX1_blockingPairsByPreference cX1_blockingPairsByPreference 1 (some .int) 0 := ⟨(RX1, TX1, 7), rfl, rfl, q1805, q1806, q1807, q81, q1808, ⟨by decide +kernel, by decide +kernel, by decide +kernel⟩, by decide⟩
theorem kv_X1_246 : JV RX1 246 1 yX2_blockingPairsByPreference cX2_blockingPairsByPreference 6 (some .int) 0 := ⟨(RX2, TX2, 6), rfl, rfl, q1809, q1810, q1811, q82, q1812, ⟨by decide +kernel, by decide +kernel, by decide +kernel⟩, by decide⟩
theorem kv_X0_306 : JV RX0 306 0 yX1_day cX1_day 1 (some .int) 0 := ⟨(RX1, TX1, 7), rfl, rfl, q1813, q1814, q1815, q81, q1816, ⟨by decide +kernel, by decide +kernel, by decide +kernel⟩, by decide⟩
theorem kv_X0_313 : JV RX0 313 0 yX1_dailyWages cX1_dailyWages 1 (some .int) 0 := ⟨(RX1, TX1, 7), rfl, rfl, q1817, q1818, q1819, q81, q1820, ⟨by decide +kernel, by decide +kernel, by decide +kernel⟩, by decide⟩
theorem kv_X1_256 : JV RX1 256 1 yX2_dailyWages cX2_dailyWages 4 (some .int) 0 := ⟨(RX2, TX2, 6), rfl, rfl, q1821, q1822, q1823, q82, q1824, ⟨by decide +kernel, by decide +kernel, by decide +kernel⟩, by decide⟩
theorem kv_X0_327 : JV RX0 327 0 yX1_writePosts cX1_writePosts 1 (some .int) 0 := ⟨(RX1, TX1, 7), rfl, rfl, q1825, q1826, q1827, q81, q1828, ⟨by decide +kernel, by decide +kernel, by decide +kernel⟩, by decide⟩
theorem kv_X1_287 : JV RX1 287 1 yX2_postsTold cX2_postsTold 4 (some (.object "java/lang/String")) 0 := ⟨(RX2, TX2, 6), rfl, rfl, q1829, q1830, q1831, q82, q1832, ⟨by decide +kernel, by decide +kernel, by decide +kernel⟩, by decide⟩
theorem kn_X2_287 : JLN RX2 287 14 [.null, .int 0, .int 0, .int 0] := ⟨(RJ7, TJ7, 4), rfl, in_J7, ⟨tyJ7, tyJ7_ok, fun j hj => by have hj : j < 4 := hj; rcases (show j = 0 ∨ j = 1 ∨ j = 2 ∨ j = 3 by omega) with rfl | rfl | rfl | rfl <;> rfl⟩, q1833, q244, q90⟩
theorem kc_X2_287 : JLC RX2 287 14 := ⟨"java/lang/StringBuilder", (RJ7, TJ7, 4), rfl, q1833, Or.inl rfl⟩
theorem ki_X2_289 : JI RX2 289 yJ7_init cJ7_init 1 0 := ⟨q1834, q246, q90, q247, rfl, ⟨by decide +kernel, by decide +kernel, by decide +kernel⟩, by decide⟩
theorem kv_X2_305 : JV RX2 305 14 yJ7_length cJ7_length 1 (some .int) 0 := ⟨(RJ7, TJ7, 4), rfl, rfl, q1835, q897, q2992, q90, q898, ⟨by decide +kernel, by decide +kernel, by decide +kernel⟩, by decide⟩
theorem kv_X2_294 : JV RX2 294 14 yJ7_append_3 cJ7_append_3 2 (some (.object "java/lang/StringBuilder")) 1 := ⟨(RJ7, TJ7, 4), rfl, rfl, q1836, q1837, q1838, q90, q1839, ⟨by decide +kernel, by decide +kernel, by decide +kernel⟩, by decide⟩
theorem ksu_J7_50 : JSU RJ7 50 14 yJ6_append_3 cJ6_append_3 2 (some (.object "java/lang/AbstractStringBuilder")) 1 := ⟨(RJ7, TJ7, 4), rfl, q1840, q2993, q273, q1841, q89, q1842, by decide +kernel, by decide +kernel, by decide⟩
theorem ks_J6_191 : JS RJ6 191 yJ21_canEncode cJ21_canEncode 1 (some .boolean) 1 := ⟨q1843, q1844, q109, q1845, ⟨by decide +kernel, by decide +kernel, by decide +kernel⟩, by decide⟩
theorem ks_J6_197 : JS RJ6 197 yJ9_putCharSB cJ9_putCharSB 3 none 3 := ⟨q1846, q1847, q92, q1848, ⟨by decide +kernel, by decide +kernel, by decide +kernel⟩, by decide⟩
theorem ks_J9_67 : JS RJ9 67 yJ9_checkIndex cJ9_checkIndex 2 none 2 := ⟨q1849, q1850, q92, q1851, ⟨by decide +kernel, by decide +kernel, by decide +kernel⟩, by decide⟩
theorem ks_J9_414 : JS RJ9 414 yJ8_checkIndex cJ8_checkIndex 2 none 2 := ⟨q1852, q1853, q91, q1854, ⟨by decide +kernel, by decide +kernel, by decide +kernel⟩, by decide⟩
theorem ks_J8_1059 : JS RJ8 1059 yJ23_checkIndex cJ23_checkIndex 3 (some .int) 3 := ⟨q1855, q1389, q111, q1390, ⟨by decide +kernel, by decide +kernel, by decide +kernel⟩, by decide⟩
theorem kv_X2_298 : JV RX2 298 14 yJ7_append_2 cJ7_append_2 2 (some (.object "java/lang/StringBuilder")) 1 := ⟨(RJ7, TJ7, 4), rfl, rfl, q1856, q851, q852, q90, q853, ⟨by decide +kernel, by decide +kernel, by decide +kernel⟩, by decide⟩
theorem kv_X2_301 : JV RX2 301 14 yJ7_toString cJ7_toString 1 (some (.object "java/lang/String")) 0 := ⟨(RJ7, TJ7, 4), rfl, rfl, q1857, q876, q877, q90, q878, ⟨by decide +kernel, by decide +kernel, by decide +kernel⟩, by decide⟩
theorem kv_X1_283 : JV RX1 283 0 yX1_write cX1_write 2 (some .int) 1 := ⟨(RX1, TX1, 7), rfl, rfl, q1858, q1860, qs19, q81, q1861, ⟨by decide +kernel, by decide +kernel, by decide +kernel⟩, by decide⟩
theorem kv_X1_274 : JV RX1 274 15 yJ8_length cJ8_length 1 (some .int) 0 := ⟨(RJ8, TJ8, 4), rfl, rfl, q1862, q809, q810, q91, q811, ⟨by decide +kernel, by decide +kernel, by decide +kernel⟩, by decide⟩
theorem kv_X0_334 : JV RX0 334 0 yX1_isConsistent cX1_isConsistent 1 (some .boolean) 0 := ⟨(RX1, TX1, 7), rfl, rfl, q1863, q1864, q1865, q81, q1866, ⟨by decide +kernel, by decide +kernel, by decide +kernel⟩, by decide⟩
theorem kv_X1_295 : JV RX1 295 1 yX2_isConsistent cX2_isConsistent 4 (some .boolean) 0 := ⟨(RX2, TX2, 6), rfl, rfl, q1867, q1868, q1869, q82, q1870, ⟨by decide +kernel, by decide +kernel, by decide +kernel⟩, by decide⟩
theorem kv_X2_275 : JV RX2 275 1 yX2_mostHires cX2_mostHires 5 (some .int) 0 := ⟨(RX2, TX2, 6), rfl, rfl, q1871, q1766, q1767, q82, q1768, ⟨by decide +kernel, by decide +kernel, by decide +kernel⟩, by decide⟩
theorem kv_X2_278 : JV RX2 278 1 yX2_mostHiresBySets cX2_mostHiresBySets 5 (some .int) 0 := ⟨(RX2, TX2, 6), rfl, rfl, q1872, q1779, q1780, q82, q1781, ⟨by decide +kernel, by decide +kernel, by decide +kernel⟩, by decide⟩
theorem kv_X2_281 : JV RX2 281 1 yX2_blockingPairs cX2_blockingPairs 7 (some .int) 0 := ⟨(RX2, TX2, 6), rfl, rfl, q1873, q1798, q1799, q82, q1800, ⟨by decide +kernel, by decide +kernel, by decide +kernel⟩, by decide⟩
theorem kv_X2_284 : JV RX2 284 1 yX2_blockingPairsByPreference cX2_blockingPairsByPreference 6 (some .int) 0 := ⟨(RX2, TX2, 6), rfl, rfl, q1874, q1810, q1811, q82, q1812, ⟨by decide +kernel, by decide +kernel, by decide +kernel⟩, by decide⟩
theorem kv_X0_356 : JV RX0 356 0 yX1_undoCount cX1_undoCount 1 (some .int) 0 := ⟨(RX1, TX1, 7), rfl, rfl, q1875, q1876, q1877, q81, q1878, ⟨by decide +kernel, by decide +kernel, by decide +kernel⟩, by decide⟩
theorem kv_X0_360 : JV RX0 360 0 yX1_save cX1_save 1 (some .int) 0 := ⟨(RX1, TX1, 7), rfl, rfl, q1879, q1880, q1881, q81, q1882, ⟨by decide +kernel, by decide +kernel, by decide +kernel⟩, by decide⟩
theorem ks_X0_165 : JSX RX0 165 yX0_addApplicant cX0_addApplicant 6 (some .int) [(0, 12, 15, 13), (0, 12, 19, 15)] 5 := ⟨q1883, q1884, q80, q1885, ⟨by decide +kernel, by decide +kernel, by decide +kernel⟩, by decide⟩
theorem kv_X0_7 : JV RX0 7 0 yX1_addApplicant cX1_addApplicant 4 (some .int) 3 := ⟨(RX1, TX1, 7), rfl, rfl, q1888, q1889, q1890, q81, q1891, ⟨by decide +kernel, by decide +kernel, by decide +kernel⟩, by decide⟩
theorem ks_X0_174 : JSX RX0 174 yX0_removeApplicant cX0_removeApplicant 4 (some .int) [(0, 9, 12, 21)] 3 := ⟨q1893, q1894, q80, q1895, ⟨by decide +kernel, by decide +kernel, by decide +kernel⟩, by decide⟩
theorem kv_X0_17 : JV RX0 17 0 yX1_removeApplicant cX1_removeApplicant 2 (some .int) 1 := ⟨(RX1, TX1, 7), rfl, rfl, q1897, q1898, q1899, q81, q1900, ⟨by decide +kernel, by decide +kernel, by decide +kernel⟩, by decide⟩
theorem ks_X0_178 : JSX RX0 178 yX0_rejectRainy cX0_rejectRainy 4 (some .int) [(0, 9, 12, 13)] 3 := ⟨q1902, q1903, q80, q1904, ⟨by decide +kernel, by decide +kernel, by decide +kernel⟩, by decide⟩
theorem kv_X0_23 : JV RX0 23 0 yX1_rejectRainy cX1_rejectRainy 2 (some .int) 1 := ⟨(RX1, TX1, 7), rfl, rfl, q1905, q1906, q1907, q81, q1908, ⟨by decide +kernel, by decide +kernel, by decide +kernel⟩, by decide⟩
theorem ks_X0_189 : JSX RX0 189 yX0_applicant cX0_applicant 4 (some .int) [(0, 9, 12, 29)] 3 := ⟨q1910, q1911, q80, q1912, ⟨by decide +kernel, by decide +kernel, by decide +kernel⟩, by decide⟩
theorem kv_X0_26 : JV RX0 26 0 yX1_applicant cX1_applicant 2 (some .int) 1 := ⟨(RX1, TX1, 7), rfl, rfl, q1929, q1930, q1931, q81, q1932, ⟨by decide +kernel, by decide +kernel, by decide +kernel⟩, by decide⟩
theorem ks_X1_114 : JS RX1 114 yX1_checkIndex cX1_checkIndex 2 none 2 := ⟨q1933, q1575, q81, q1576, ⟨by decide +kernel, by decide +kernel, by decide +kernel⟩, by decide⟩
theorem kv_X1_118 : JV RX1 118 11 yJ4_get cJ4_get 2 (some (.object "java/lang/Object")) 1 := ⟨(RJ4, TJ4, 3), rfl, rfl, q1934, q1382, q1383, q87, q1384, ⟨by decide +kernel, by decide +kernel, by decide +kernel⟩, by decide⟩
theorem kn_X1_122 : JLN RX1 122 2 [.int 0, .int 0, .int 0, .int 0, .int 0, .null] := ⟨(RX5, TX5, 6), rfl, in_X5, ⟨tyX5, tyX5_ok, fun j hj => by have hj : j < 6 := hj; rcases (show j = 0 ∨ j = 1 ∨ j = 2 ∨ j = 3 ∨ j = 4 ∨ j = 5 by omega) with rfl | rfl | rfl | rfl | rfl | rfl <;> rfl⟩, q1935, q580, q104⟩
theorem kc_X1_122 : JLC RX1 122 2 := ⟨"CloudInterviews$Applicant", (RX5, TX5, 6), rfl, q1935, Or.inl rfl⟩
theorem kr_X1_122 : JLR RX1 122 7 "CloudInterviews$Applicant" := ⟨by decide, by decide, rfl, q1935, q1672⟩
theorem ks_X0_192 : JSX RX0 192 yX0_shape cX0_shape 4 (some .int) [(0, 9, 12, 21)] 3 := ⟨q1936, q1937, q80, q1938, ⟨by decide +kernel, by decide +kernel, by decide +kernel⟩, by decide⟩
theorem kv_X0_31 : JV RX0 31 0 yX1_shape cX1_shape 2 (some .char) 1 := ⟨(RX1, TX1, 7), rfl, rfl, q1939, q1940, q1941, q81, q1942, ⟨by decide +kernel, by decide +kernel, by decide +kernel⟩, by decide⟩
theorem kv_X1_127 : JV RX1 127 1 yX2_applicant cX2_applicant 3 (some (.object "CloudInterviews$Applicant")) 1 := ⟨(RX2, TX2, 6), rfl, rfl, q1943, q1534, q1535, q82, q1536, ⟨by decide +kernel, by decide +kernel, by decide +kernel⟩, by decide⟩
theorem ks_X0_195 : JSX RX0 195 yX0_whiteness cX0_whiteness 4 (some .int) [(0, 9, 12, 21)] 3 := ⟨q1944, q1945, q80, q1946, ⟨by decide +kernel, by decide +kernel, by decide +kernel⟩, by decide⟩
theorem kv_X0_35 : JV RX0 35 0 yX1_whiteness cX1_whiteness 2 (some .int) 1 := ⟨(RX1, TX1, 7), rfl, rfl, q1947, q1948, q1949, q81, q1950, ⟨by decide +kernel, by decide +kernel, by decide +kernel⟩, by decide⟩
theorem ks_X0_198 : JSX RX0 198 yX0_rain cX0_rain 4 (some .int) [(0, 9, 12, 21)] 3 := ⟨q1951, q1952, q80, q1953, ⟨by decide +kernel, by decide +kernel, by decide +kernel⟩, by decide⟩
theorem kv_X0_38 : JV RX0 38 0 yX1_rain cX1_rain 2 (some .int) 1 := ⟨(RX1, TX1, 7), rfl, rfl, q1954, q1955, q1956, q81, q1957, ⟨by decide +kernel, by decide +kernel, by decide +kernel⟩, by decide⟩
theorem ks_X0_201 : JSX RX0 201 yX0_coins cX0_coins 4 (some .int) [(0, 9, 12, 21)] 3 := ⟨q1958, q1959, q80, q1960, ⟨by decide +kernel, by decide +kernel, by decide +kernel⟩, by decide⟩
theorem kv_X0_41 : JV RX0 41 0 yX1_coins cX1_coins 2 (some .int) 1 := ⟨(RX1, TX1, 7), rfl, rfl, q1961, q1962, q1963, q81, q1964, ⟨by decide +kernel, by decide +kernel, by decide +kernel⟩, by decide⟩
theorem ks_X0_204 : JSX RX0 204 yX0_isHired cX0_isHired 4 (some .int) [(0, 16, 19, 21)] 3 := ⟨q1965, q1966, q80, q1967, ⟨by decide +kernel, by decide +kernel, by decide +kernel⟩, by decide⟩
theorem kv_X0_44 : JV RX0 44 0 yX1_isHired cX1_isHired 2 (some .boolean) 1 := ⟨(RX1, TX1, 7), rfl, rfl, q1968, q1969, q1970, q81, q1971, ⟨by decide +kernel, by decide +kernel, by decide +kernel⟩, by decide⟩
theorem kv_X1_144 : JV RX1 144 2 yX5_isHired cX5_isHired 1 (some .boolean) 0 := ⟨(RX5, TX5, 6), rfl, rfl, q1972, q431, q432, q104, q433, ⟨by decide +kernel, by decide +kernel, by decide +kernel⟩, by decide⟩
theorem ks_X0_207 : JSX RX0 207 yX0_postOf cX0_postOf 4 (some .int) [(0, 9, 12, 21)] 3 := ⟨q1973, q1974, q80, q1975, ⟨by decide +kernel, by decide +kernel, by decide +kernel⟩, by decide⟩
theorem kv_X0_48 : JV RX0 48 0 yX1_postOf cX1_postOf 3 (some .int) 1 := ⟨(RX1, TX1, 7), rfl, rfl, q1976, q1977, q1978, q81, q1979, ⟨by decide +kernel, by decide +kernel, by decide +kernel⟩, by decide⟩
theorem ks_X1_148 : JS RX1 148 yX1_checkElement cX1_checkElement 1 none 1 := ⟨q1980, q1542, q81, q1543, ⟨by decide +kernel, by decide +kernel, by decide +kernel⟩, by decide⟩
theorem kv_X1_156 : JV RX1 156 1 yX2_indexOf cX2_indexOf 3 (some .int) 1 := ⟨(RX2, TX2, 6), rfl, rfl, q1981, q1378, q1379, q82, q1380, ⟨by decide +kernel, by decide +kernel, by decide +kernel⟩, by decide⟩
theorem ks_X0_210 : JSX RX0 210 yX0_score cX0_score 4 (some .int) [(0, 9, 12, 21)] 3 := ⟨q1982, q1983, q80, q1984, ⟨by decide +kernel, by decide +kernel, by decide +kernel⟩, by decide⟩
theorem kv_X0_51 : JV RX0 51 0 yX1_score cX1_score 2 (some .int) 1 := ⟨(RX1, TX1, 7), rfl, rfl, q1985, q1986, q1987, q81, q1988, ⟨by decide +kernel, by decide +kernel, by decide +kernel⟩, by decide⟩
theorem kv_X1_160 : JV RX1 160 1 yX2_score cX2_score 2 (some .int) 1 := ⟨(RX2, TX2, 6), rfl, rfl, q1989, q1682, q1683, q82, q1684, ⟨by decide +kernel, by decide +kernel, by decide +kernel⟩, by decide⟩
theorem ks_X0_213 : JSX RX0 213 yX0_applicantByScore cX0_applicantByScore 4 (some .int) [(0, 9, 12, 29)] 3 := ⟨q1990, q1991, q80, q1992, ⟨by decide +kernel, by decide +kernel, by decide +kernel⟩, by decide⟩
theorem kv_X0_54 : JV RX0 54 0 yX1_applicantByScore cX1_applicantByScore 2 (some .int) 1 := ⟨(RX1, TX1, 7), rfl, rfl, q1993, q1994, q1995, q81, q1996, ⟨by decide +kernel, by decide +kernel, by decide +kernel⟩, by decide⟩
theorem kv_X1_164 : JV RX1 164 1 yX2_byScore cX2_byScore 8 (some .int) 1 := ⟨(RX2, TX2, 6), rfl, rfl, q1997, q1998, q1999, q82, q2000, ⟨by decide +kernel, by decide +kernel, by decide +kernel⟩, by decide⟩
theorem ks_X0_216 : JSX RX0 216 yX0_addReference cX0_addReference 5 (some .int) [(0, 10, 13, 21), (0, 10, 17, 13), (0, 10, 21, 15)] 4 := ⟨q2001, q2002, q80, q2003, ⟨by decide +kernel, by decide +kernel, by decide +kernel⟩, by decide⟩
theorem kv_X0_57 : JV RX0 57 0 yX1_addReference cX1_addReference 3 (some .int) 2 := ⟨(RX1, TX1, 7), rfl, rfl, q2004, q2005, q2006, q81, q2007, ⟨by decide +kernel, by decide +kernel, by decide +kernel⟩, by decide⟩
theorem ks_X0_220 : JSX RX0 220 yX0_removeReference cX0_removeReference 5 (some .int) [(0, 10, 13, 21)] 4 := ⟨q2009, q2010, q80, q2011, ⟨by decide +kernel, by decide +kernel, by decide +kernel⟩, by decide⟩
theorem kv_X0_61 : JV RX0 61 0 yX1_removeReference cX1_removeReference 3 (some .int) 2 := ⟨(RX1, TX1, 7), rfl, rfl, q2012, q2013, q2014, q81, q2015, ⟨by decide +kernel, by decide +kernel, by decide +kernel⟩, by decide⟩
theorem ks_X0_223 : JSX RX0 223 yX0_hasReference cX0_hasReference 5 (some .int) [(0, 17, 20, 21)] 4 := ⟨q2017, q2018, q80, q2019, ⟨by decide +kernel, by decide +kernel, by decide +kernel⟩, by decide⟩
theorem kv_X0_64 : JV RX0 64 0 yX1_hasReference cX1_hasReference 3 (some .boolean) 2 := ⟨(RX1, TX1, 7), rfl, rfl, q2020, q2021, q2022, q81, q2023, ⟨by decide +kernel, by decide +kernel, by decide +kernel⟩, by decide⟩
theorem kv_X1_172 : JV RX1 172 1 yX2_hasReference cX2_hasReference 3 (some .boolean) 2 := ⟨(RX2, TX2, 6), rfl, rfl, q2024, q1400, q1401, q82, q1402, ⟨by decide +kernel, by decide +kernel, by decide +kernel⟩, by decide⟩
theorem ks_X0_226 : JSX RX0 226 yX0_referencesFor cX0_referencesFor 4 (some .int) [(0, 9, 12, 21)] 3 := ⟨q2025, q2026, q80, q2027, ⟨by decide +kernel, by decide +kernel, by decide +kernel⟩, by decide⟩
theorem kv_X0_68 : JV RX0 68 0 yX1_referencesFor cX1_referencesFor 2 (some .int) 1 := ⟨(RX1, TX1, 7), rfl, rfl, q2028, q2029, q2030, q81, q2031, ⟨by decide +kernel, by decide +kernel, by decide +kernel⟩, by decide⟩
theorem kv_X1_176 : JV RX1 176 1 yX2_referencesFor cX2_referencesFor 5 (some .int) 1 := ⟨(RX2, TX2, 6), rfl, rfl, q2032, q1633, q1634, q82, q1635, ⟨by decide +kernel, by decide +kernel, by decide +kernel⟩, by decide⟩
theorem ks_X0_229 : JSX RX0 229 yX0_referencesFrom cX0_referencesFrom 4 (some .int) [(0, 9, 12, 21)] 3 := ⟨q2033, q2034, q80, q2035, ⟨by decide +kernel, by decide +kernel, by decide +kernel⟩, by decide⟩
theorem kv_X0_71 : JV RX0 71 0 yX1_referencesFrom cX1_referencesFrom 2 (some .int) 1 := ⟨(RX1, TX1, 7), rfl, rfl, q2036, q2037, q2038, q81, q2039, ⟨by decide +kernel, by decide +kernel, by decide +kernel⟩, by decide⟩
theorem kv_X1_179 : JV RX1 179 1 yX2_referencesFrom cX2_referencesFrom 5 (some .int) 1 := ⟨(RX2, TX2, 6), rfl, rfl, q2040, q2041, q2042, q82, q2043, ⟨by decide +kernel, by decide +kernel, by decide +kernel⟩, by decide⟩
theorem ks_X0_232 : JSX RX0 232 yX0_openPost cX0_openPost 7 (some .int) [(0, 14, 17, 13), (0, 14, 21, 15)] 6 := ⟨q2044, q2045, q80, q2046, ⟨by decide +kernel, by decide +kernel, by decide +kernel⟩, by decide⟩
theorem kv_X0_74 : JV RX0 74 0 yX1_openPost cX1_openPost 5 (some .int) 4 := ⟨(RX1, TX1, 7), rfl, rfl, q2047, q2048, q2049, q81, q2050, ⟨by decide +kernel, by decide +kernel, by decide +kernel⟩, by decide⟩
theorem ks_X0_236 : JSX RX0 236 yX0_closePost cX0_closePost 4 (some .int) [(0, 16, 19, 29)] 3 := ⟨q2052, q2053, q80, q2054, ⟨by decide +kernel, by decide +kernel, by decide +kernel⟩, by decide⟩
theorem kv_X0_78 : JV RX0 78 0 yX1_closePost cX1_closePost 2 (some .boolean) 1 := ⟨(RX1, TX1, 7), rfl, rfl, q2055, q2056, q2057, q81, q2058, ⟨by decide +kernel, by decide +kernel, by decide +kernel⟩, by decide⟩
theorem ks_X0_247 : JSX RX0 247 yX0_requiredShape cX0_requiredShape 4 (some .int) [(0, 9, 12, 29)] 3 := ⟨q2060, q2061, q80, q2062, ⟨by decide +kernel, by decide +kernel, by decide +kernel⟩, by decide⟩
theorem kv_X0_81 : JV RX0 81 0 yX1_requiredShape cX1_requiredShape 2 (some .char) 1 := ⟨(RX1, TX1, 7), rfl, rfl, q2063, q2064, q2065, q81, q2066, ⟨by decide +kernel, by decide +kernel, by decide +kernel⟩, by decide⟩
theorem kv_X1_192 : JV RX1 192 1 yX2_post cX2_post 2 (some (.object "CloudInterviews$Post")) 1 := ⟨(RX2, TX2, 6), rfl, rfl, q2067, q1571, q1572, q82, q1573, ⟨by decide +kernel, by decide +kernel, by decide +kernel⟩, by decide⟩
theorem ks_X0_250 : JSX RX0 250 yX0_lowestWhiteness cX0_lowestWhiteness 4 (some .int) [(0, 9, 12, 29)] 3 := ⟨q2068, q2069, q80, q2070, ⟨by decide +kernel, by decide +kernel, by decide +kernel⟩, by decide⟩
theorem kv_X0_84 : JV RX0 84 0 yX1_lowestWhiteness cX1_lowestWhiteness 2 (some .int) 1 := ⟨(RX1, TX1, 7), rfl, rfl, q2071, q2072, q2073, q81, q2074, ⟨by decide +kernel, by decide +kernel, by decide +kernel⟩, by decide⟩
theorem ks_X0_253 : JSX RX0 253 yX0_highestRain cX0_highestRain 4 (some .int) [(0, 9, 12, 29)] 3 := ⟨q2075, q2076, q80, q2077, ⟨by decide +kernel, by decide +kernel, by decide +kernel⟩, by decide⟩
theorem kv_X0_87 : JV RX0 87 0 yX1_highestRain cX1_highestRain 2 (some .int) 1 := ⟨(RX1, TX1, 7), rfl, rfl, q2078, q2079, q2080, q81, q2081, ⟨by decide +kernel, by decide +kernel, by decide +kernel⟩, by decide⟩
theorem ks_X0_256 : JSX RX0 256 yX0_wage cX0_wage 4 (some .int) [(0, 9, 12, 29)] 3 := ⟨q2082, q2083, q80, q2084, ⟨by decide +kernel, by decide +kernel, by decide +kernel⟩, by decide⟩
theorem kv_X0_90 : JV RX0 90 0 yX1_wage cX1_wage 2 (some .int) 1 := ⟨(RX1, TX1, 7), rfl, rfl, q2085, q2086, q2087, q81, q2088, ⟨by decide +kernel, by decide +kernel, by decide +kernel⟩, by decide⟩
theorem ks_X0_259 : JSX RX0 259 yX0_filledBy cX0_filledBy 4 (some .int) [(0, 9, 12, 29), (0, 9, 15, 21)] 3 := ⟨q2089, q2090, q80, q2091, ⟨by decide +kernel, by decide +kernel, by decide +kernel⟩, by decide⟩
theorem kv_X0_93 : JV RX0 93 0 yX1_filledBy cX1_filledBy 3 (some .int) 1 := ⟨(RX1, TX1, 7), rfl, rfl, q2092, q2093, q2094, q81, q2095, ⟨by decide +kernel, by decide +kernel, by decide +kernel⟩, by decide⟩
theorem kv_X1_207 : JV RX1 207 3 yX4_isVacant cX4_isVacant 1 (some .boolean) 0 := ⟨(RX4, TX4, 5), rfl, rfl, q2096, q448, q449, q99, q450, ⟨by decide +kernel, by decide +kernel, by decide +kernel⟩, by decide⟩
theorem ks_X0_262 : JSX RX0 262 yX0_suits cX0_suits 5 (some .int) [(0, 17, 20, 21), (0, 17, 24, 29)] 4 := ⟨q2097, q2098, q80, q2099, ⟨by decide +kernel, by decide +kernel, by decide +kernel⟩, by decide⟩
theorem kv_X0_96 : JV RX0 96 0 yX1_suits cX1_suits 4 (some .boolean) 2 := ⟨(RX1, TX1, 7), rfl, rfl, q2100, q2101, q2102, q81, q2103, ⟨by decide +kernel, by decide +kernel, by decide +kernel⟩, by decide⟩
theorem kv_X1_214 : JV RX1 214 3 yX4_fits cX4_fits 3 (some .boolean) 1 := ⟨(RX4, TX4, 5), rfl, rfl, q2104, q1602, q1603, q99, q1604, ⟨by decide +kernel, by decide +kernel, by decide +kernel⟩, by decide⟩
theorem ks_X0_265 : JSX RX0 265 yX0_favouritePost cX0_favouritePost 4 (some .int) [(0, 9, 12, 21)] 3 := ⟨q2105, q2106, q80, q2107, ⟨by decide +kernel, by decide +kernel, by decide +kernel⟩, by decide⟩
theorem kv_X0_99 : JV RX0 99 0 yX1_favouritePost cX1_favouritePost 3 (some .int) 1 := ⟨(RX1, TX1, 7), rfl, rfl, q2108, q2109, q2110, q81, q2111, ⟨by decide +kernel, by decide +kernel, by decide +kernel⟩, by decide⟩
theorem kv_X1_218 : JV RX1 218 1 yX2_favourite cX2_favourite 6 (some (.object "CloudInterviews$Post")) 1 := ⟨(RX2, TX2, 6), rfl, rfl, q2112, q2113, q2114, q82, q2115, ⟨by decide +kernel, by decide +kernel, by decide +kernel⟩, by decide⟩
theorem ks_X0_268 : JSX RX0 268 yX0_bestCandidate cX0_bestCandidate 4 (some .int) [(0, 9, 12, 29), (0, 9, 15, 21)] 3 := ⟨q2116, q2117, q80, q2118, ⟨by decide +kernel, by decide +kernel, by decide +kernel⟩, by decide⟩
theorem kv_X0_102 : JV RX0 102 0 yX1_bestCandidate cX1_bestCandidate 3 (some .int) 1 := ⟨(RX1, TX1, 7), rfl, rfl, q2119, q2120, q2121, q81, q2122, ⟨by decide +kernel, by decide +kernel, by decide +kernel⟩, by decide⟩
theorem kv_X1_222 : JV RX1 222 1 yX2_candidate cX2_candidate 6 (some (.object "CloudInterviews$Applicant")) 1 := ⟨(RX2, TX2, 6), rfl, rfl, q2123, q1700, q1701, q82, q1702, ⟨by decide +kernel, by decide +kernel, by decide +kernel⟩, by decide⟩
theorem ks_X0_271 : JSX RX0 271 yX0_candidateCount cX0_candidateCount 4 (some .int) [(0, 9, 12, 29)] 3 := ⟨q2124, q2125, q80, q2126, ⟨by decide +kernel, by decide +kernel, by decide +kernel⟩, by decide⟩
theorem kv_X0_105 : JV RX0 105 0 yX1_candidateCount cX1_candidateCount 2 (some .int) 1 := ⟨(RX1, TX1, 7), rfl, rfl, q2127, q2128, q2129, q81, q2130, ⟨by decide +kernel, by decide +kernel, by decide +kernel⟩, by decide⟩
theorem kv_X1_226 : JV RX1 226 1 yX2_candidates cX2_candidates 5 (some .int) 1 := ⟨(RX2, TX2, 6), rfl, rfl, q2131, q2132, q2133, q82, q2134, ⟨by decide +kernel, by decide +kernel, by decide +kernel⟩, by decide⟩
theorem ks_X0_274 : JSX RX0 274 yX0_hire cX0_hire 5 (some .int) [(0, 10, 13, 29), (0, 10, 17, 21), (0, 10, 21, 15), (0, 10, 25, 111)] 4 := ⟨q2135, q2136, q80, q2137, ⟨by decide +kernel, by decide +kernel, by decide +kernel⟩, by decide⟩
theorem kv_X0_108 : JV RX0 108 0 yX1_hire cX1_hire 3 (some .int) 2 := ⟨(RX1, TX1, 7), rfl, rfl, q2139, q2140, q2141, q81, q2142, ⟨by decide +kernel, by decide +kernel, by decide +kernel⟩, by decide⟩
theorem ks_X0_277 : JSX RX0 277 yX0_hireBest cX0_hireBest 4 (some .int) [(0, 9, 12, 29), (0, 9, 15, 15), (0, 9, 18, 21)] 3 := ⟨q2144, q2145, q80, q2146, ⟨by decide +kernel, by decide +kernel, by decide +kernel⟩, by decide⟩
theorem kv_X0_113 : JV RX0 113 0 yX1_hireBest cX1_hireBest 2 (some .int) 1 := ⟨(RX1, TX1, 7), rfl, rfl, q2147, q2148, q2149, q81, q2150, ⟨by decide +kernel, by decide +kernel, by decide +kernel⟩, by decide⟩
theorem ks_X0_280 : JSX RX0 280 yX0_dismiss cX0_dismiss 4 (some .int) [(0, 9, 12, 29), (0, 9, 15, 15)] 3 := ⟨q2152, q2153, q80, q2154, ⟨by decide +kernel, by decide +kernel, by decide +kernel⟩, by decide⟩
theorem kv_X0_116 : JV RX0 116 0 yX1_dismiss cX1_dismiss 2 (some .int) 1 := ⟨(RX1, TX1, 7), rfl, rfl, q2155, q2156, q2157, q81, q2158, ⟨by decide +kernel, by decide +kernel, by decide +kernel⟩, by decide⟩
theorem ks_X0_303 : JSX RX0 303 yX0_passDays cX0_passDays 4 (some .int) [(0, 9, 12, 13)] 3 := ⟨q2160, q2161, q80, q2162, ⟨by decide +kernel, by decide +kernel, by decide +kernel⟩, by decide⟩
theorem kv_X0_119 : JV RX0 119 0 yX1_passDays cX1_passDays 2 (some .int) 1 := ⟨(RX1, TX1, 7), rfl, rfl, q2163, q2164, q2165, q81, q2166, ⟨by decide +kernel, by decide +kernel, by decide +kernel⟩, by decide⟩
theorem ks_X0_310 : JSX RX0 310 yX0_daysUntilDismissal cX0_daysUntilDismissal 4 (some .int) [(0, 9, 12, 21)] 3 := ⟨q2168, q2169, q80, q2170, ⟨by decide +kernel, by decide +kernel, by decide +kernel⟩, by decide⟩
theorem kv_X0_122 : JV RX0 122 0 yX1_daysUntilDismissal cX1_daysUntilDismissal 2 (some .int) 1 := ⟨(RX1, TX1, 7), rfl, rfl, q2171, q2172, q2173, q81, q2174, ⟨by decide +kernel, by decide +kernel, by decide +kernel⟩, by decide⟩
theorem kv_X1_253 : JV RX1 253 1 yX2_daysUntilDismissal cX2_daysUntilDismissal 3 (some .int) 1 := ⟨(RX2, TX2, 6), rfl, rfl, q2175, q2176, q2177, q82, q2178, ⟨by decide +kernel, by decide +kernel, by decide +kernel⟩, by decide⟩
theorem ks_X0_317 : JSX RX0 317 yX0_meanScore cX0_meanScore 3 (some .int) [(0, 7, 10, 129)] 2 := ⟨q2179, q2180, q80, q2181, ⟨by decide +kernel, by decide +kernel, by decide +kernel⟩, by decide⟩
theorem kv_X0_125 : JV RX0 125 0 yX1_meanScore cX1_meanScore 5 (some .double) 0 := ⟨(RX1, TX1, 7), rfl, rfl, q2196, q2197, q2198, q81, q2199, ⟨by decide +kernel, by decide +kernel, by decide +kernel⟩, by decide⟩
theorem ks_X1_259 : JS RX1 259 yX1_checkNumbers cX1_checkNumbers 1 none 1 := ⟨q2200, q2201, q81, q2202, ⟨by decide +kernel, by decide +kernel, by decide +kernel⟩, by decide⟩
theorem kv_X1_262 : JV RX1 262 11 yJ4_iterator cJ4_iterator 1 (some (.object "java/util/Iterator")) 0 := ⟨(RJ4, TJ4, 3), rfl, rfl, q2208, q315, q316, q87, q317, ⟨by decide +kernel, by decide +kernel, by decide +kernel⟩, by decide⟩
theorem kf_X1_266_12 : JF RX1 266 12 ⟨"java/util/Iterator", "hasNext", "()Z"⟩ yJ10_hasNext cJ10_hasNext 1 (some .boolean) 0 := ⟨(RJ10, TJ10, 4), rfl, q2210, q342, q344, q94, q346, ⟨q340, q339, q345, q343, q341⟩, ⟨by decide +kernel, by decide +kernel, by decide +kernel⟩, by decide⟩
theorem kf_X1_271_12 : JF RX1 271 12 ⟨"java/util/Iterator", "next", "()Ljava/lang/Object;"⟩ yJ10_next cJ10_next 3 (some (.object "java/lang/Object")) 0 := ⟨(RJ10, TJ10, 4), rfl, q2212, q351, q353, q94, q355, ⟨q350, q349, q354, q352, q341⟩, ⟨by decide +kernel, by decide +kernel, by decide +kernel⟩, by decide⟩
theorem ks_X0_321 : JSX RX0 321 yX0_filledFraction cX0_filledFraction 3 (some .int) [(0, 8, 11, 129)] 2 := ⟨q2213, q2214, q80, q2215, ⟨by decide +kernel, by decide +kernel, by decide +kernel⟩, by decide⟩
theorem kv_X0_131 : JV RX0 131 0 yX1_filledFraction cX1_filledFraction 2 (some .float) 0 := ⟨(RX1, TX1, 7), rfl, rfl, q2216, q2217, q2218, q81, q2219, ⟨by decide +kernel, by decide +kernel, by decide +kernel⟩, by decide⟩
theorem ks_X0_324 : JSX RX0 324 yX0_writeApplicant cX0_writeApplicant 4 (some .int) [(0, 9, 12, 21)] 3 := ⟨q2220, q2221, q80, q2222, ⟨by decide +kernel, by decide +kernel, by decide +kernel⟩, by decide⟩
theorem kv_X0_135 : JV RX0 135 0 yX1_writeApplicant cX1_writeApplicant 2 (some .int) 1 := ⟨(RX1, TX1, 7), rfl, rfl, q2223, q2224, q2225, q81, q2226, ⟨by decide +kernel, by decide +kernel, by decide +kernel⟩, by decide⟩
theorem kv_X1_279 : JV RX1 279 1 yX2_told cX2_told 3 (some (.object "java/lang/String")) 1 := ⟨(RX2, TX2, 6), rfl, rfl, q2227, q2228, q2229, q82, q2230, ⟨by decide +kernel, by decide +kernel, by decide +kernel⟩, by decide⟩
theorem ks_X0_331 : JSX RX0 331 yX0_outputCharacter cX0_outputCharacter 4 (some .int) [(0, 9, 12, 29)] 3 := ⟨q2231, q2232, q80, q2233, ⟨by decide +kernel, by decide +kernel, by decide +kernel⟩, by decide⟩
theorem kv_X0_138 : JV RX0 138 0 yX1_outputCharacter cX1_outputCharacter 2 (some .char) 1 := ⟨(RX1, TX1, 7), rfl, rfl, q2234, q2235, q2236, q81, q2237, ⟨by decide +kernel, by decide +kernel, by decide +kernel⟩, by decide⟩
theorem kv_X1_291 : JV RX1 291 15 yJ8_charAt cJ8_charAt 2 (some .char) 1 := ⟨(RJ8, TJ8, 4), rfl, rfl, q2238, q2239, q2240, q91, q2241, ⟨by decide +kernel, by decide +kernel, by decide +kernel⟩, by decide⟩
theorem ks_J8_495 : JS RJ8 495 yJ21_charAt cJ21_charAt 2 (some .char) 2 := ⟨q2242, q2243, q109, q2244, ⟨by decide +kernel, by decide +kernel, by decide +kernel⟩, by decide⟩
theorem ks_J21_9 : JS RJ21 9 yJ8_checkIndex cJ8_checkIndex 2 none 2 := ⟨q2245, q1853, q91, q1854, ⟨by decide +kernel, by decide +kernel, by decide +kernel⟩, by decide⟩
theorem ks_J8_498 : JS RJ8 498 yJ9_charAt cJ9_charAt 2 (some .char) 2 := ⟨q2246, q2247, q92, q2248, ⟨by decide +kernel, by decide +kernel, by decide +kernel⟩, by decide⟩
theorem ks_X0_339 : JSX RX0 339 yX0_feed cX0_feed 4 (some .int) [(0, 9, 12, 15)] 3 := ⟨q2249, q2250, q80, q2251, ⟨by decide +kernel, by decide +kernel, by decide +kernel⟩, by decide⟩
theorem kv_X0_141 : JV RX0 141 0 yX1_feed cX1_feed 2 (some .int) 1 := ⟨(RX1, TX1, 7), rfl, rfl, q2252, q2253, q2254, q81, q2255, ⟨by decide +kernel, by decide +kernel, by decide +kernel⟩, by decide⟩
theorem kv_X1_298 : JV RX1 298 14 yJ7_length cJ7_length 1 (some .int) 0 := ⟨(RJ7, TJ7, 4), rfl, rfl, q2256, q897, q2992, q90, q898, ⟨by decide +kernel, by decide +kernel, by decide +kernel⟩, by decide⟩
theorem ks_X1_299 : JS RX1 299 yX1_checkState cX1_checkState 1 none 1 := ⟨q2257, q1511, q81, q1512, ⟨by decide +kernel, by decide +kernel, by decide +kernel⟩, by decide⟩
theorem kv_X1_302 : JV RX1 302 14 yJ7_append_3 cJ7_append_3 2 (some (.object "java/lang/StringBuilder")) 1 := ⟨(RJ7, TJ7, 4), rfl, rfl, q2258, q1837, q1838, q90, q1839, ⟨by decide +kernel, by decide +kernel, by decide +kernel⟩, by decide⟩
theorem ks_X0_343 : JSX RX0 343 yX0_execute cX0_execute 3 (some .int) [(0, 8, 11, 13), (0, 8, 14, 111)] 2 := ⟨q2259, q2260, q80, q2261, ⟨by decide +kernel, by decide +kernel, by decide +kernel⟩, by decide⟩
theorem kv_X0_145 : JVX RX0 145 0 yX1_execute cX1_execute 7 (some .int) [(15, 57, 60, 1), (15, 57, 60, 16), (15, 57, 60, 13), (15, 57, 60, 19), (15, 57, 60, 25)] 0 := ⟨(RX1, TX1, 7), rfl, rfl, q2262, q2263, q2264, q81, q2265, ⟨by decide +kernel, by decide +kernel, by decide +kernel⟩, by decide⟩
theorem kv_X1_320 : JVX RX1 320 0 yX1_takeCommands cX1_takeCommands 3 (some (.object "java/util/ArrayList")) [(23, 27, 28, 315)] 0 := ⟨(RX1, TX1, 7), rfl, rfl, q2266, q2268, qs20, q81, q2269, ⟨by decide +kernel, by decide +kernel, by decide +kernel⟩, by decide⟩
theorem kn_X1_315 : JLN RX1 315 7 [.null, .null, .null, .null, .null, .int 0, .int 0] := ⟨(RX9, TX9, 7), rfl, in_X9, ⟨tyX9, tyX9_ok, fun j hj => by have hj : j < 7 := hj; rcases (show j = 0 ∨ j = 1 ∨ j = 2 ∨ j = 3 ∨ j = 4 ∨ j = 5 ∨ j = 6 by omega) with rfl | rfl | rfl | rfl | rfl | rfl | rfl <;> rfl⟩, q2270, q2347, q127⟩
theorem kc_X1_315 : JLC RX1 315 7 := ⟨"CloudInterviews$SyntaxException", (RX9, TX9, 7), rfl, q2270, Or.inl rfl⟩
theorem kn_X1_306 : JLN RX1 306 6 [.null, .int 0] := ⟨(RX8, TX8, 2), rfl, in_X8, ⟨tyX8, tyX8_ok, fun j hj => by have hj : j < 2 := hj; rcases (show j = 0 ∨ j = 1 by omega) with rfl | rfl <;> rfl⟩, q2271, q2272, q126⟩
theorem kc_X1_306 : JLC RX1 306 6 := ⟨"CloudInterviews$Parser", (RX8, TX8, 2), rfl, q2271, Or.inl rfl⟩
theorem ki_X1_308 : JI RX1 308 yX8_init cX8_init 2 1 := ⟨q2273, q2274, q126, q2275, rfl, ⟨by decide +kernel, by decide +kernel, by decide +kernel⟩, by decide⟩
theorem ko_X8_3 : JLO RX8 3 := ⟨q2276, q134, q135⟩
theorem kg_X8_9 : JLG RX8 9 6 0 := ⟨"CloudInterviews$Parser", (RX8, TX8, 2), rfl, in_X8, by decide, Or.inl q2277, Or.inl rfl⟩
theorem kp_X8_9 : JLP RX8 9 6 0 (.object "java/lang/CharSequence") true := ⟨kg_X8_9, fun r hr => by obtain rfl : (RX8, TX8, 2) = r := Option.some.inj hr; exact ⟨⟨tyX8, tyX8_ok, rfl⟩, nmX8, rfl, fun _ => rfl⟩⟩
theorem kg_X8_15 : JLG RX8 15 6 1 := ⟨"CloudInterviews$Parser", (RX8, TX8, 2), rfl, in_X8, by decide, Or.inl q2278, Or.inl rfl⟩
theorem kp_X8_15 : JLP RX8 15 6 1 .int false := ⟨kg_X8_15, fun r hr => by obtain rfl : (RX8, TX8, 2) = r := Option.some.inj hr; exact ⟨⟨tyX8, tyX8_ok, rfl⟩, nmX8, rfl, fun h => by cases h⟩⟩
theorem kv_X1_311 : JV RX1 311 6 yX8_commands cX8_commands 4 (some (.object "java/util/ArrayList")) 0 := ⟨(RX8, TX8, 2), rfl, rfl, q2284, q2285, q2286, q126, q2287, ⟨by decide +kernel, by decide +kernel, by decide +kernel⟩, by decide⟩
theorem kn_X8_112 : JLN RX8 112 11 [.int 0, .null, .int 0] := ⟨(RJ4, TJ4, 3), rfl, in_J4, ⟨tyJ4, tyJ4_ok, fun j hj => by have hj : j < 3 := hj; rcases (show j = 0 ∨ j = 1 ∨ j = 2 by omega) with rfl | rfl | rfl <;> rfl⟩, q2288, q175, q87⟩
theorem kc_X8_112 : JLC RX8 112 11 := ⟨"java/util/ArrayList", (RJ4, TJ4, 3), rfl, q2288, Or.inl rfl⟩
theorem ki_X8_114 : JI RX8 114 yJ4_init cJ4_init 1 0 := ⟨q2289, q177, q87, q178, rfl, ⟨by decide +kernel, by decide +kernel, by decide +kernel⟩, by decide⟩
theorem kv_X8_115 : JV RX8 115 6 yX8_command cX8_command 7 (some (.object "CloudInterviews$Command")) 0 := ⟨(RX8, TX8, 2), rfl, rfl, q2290, q2292, qs21, q126, q2293, ⟨by decide +kernel, by decide +kernel, by decide +kernel⟩, by decide⟩
theorem kn_X8_57 : JLN RX8 57 15 [.null, .int 0, .int 0, .int 0] := ⟨(RJ8, TJ8, 4), rfl, in_J8, ⟨tyJ8, tyJ8_ok, fun j hj => by have hj : j < 4 := hj; rcases (show j = 0 ∨ j = 1 ∨ j = 2 ∨ j = 3 by omega) with rfl | rfl | rfl | rfl <;> rfl⟩, q2294, q880, q91⟩
theorem kc_X8_57 : JLC RX8 57 15 := ⟨"java/lang/String", (RJ8, TJ8, 4), rfl, q2294, Or.inl rfl⟩
theorem kr_X8_57 : JLR RX8 57 9 "java/lang/String" := ⟨by decide, by decide, rfl, q2294, q2295⟩
theorem kv_X8_88 : JV RX8 88 6 yX8_word cX8_word 8 (some (.object "java/lang/String")) 1 := ⟨(RX8, TX8, 2), rfl, rfl, q2305, q2307, qs22, q126, q2308, ⟨by decide +kernel, by decide +kernel, by decide +kernel⟩, by decide⟩
theorem kv_X8_60 : JV RX8 60 6 yX8_common cX8_common 4 (some .int) 1 := ⟨(RX8, TX8, 2), rfl, rfl, q2309, q2311, qs23, q126, q2312, ⟨by decide +kernel, by decide +kernel, by decide +kernel⟩, by decide⟩
theorem kv_X8_56 : JV RX8 56 15 yJ8_length cJ8_length 1 (some .int) 0 := ⟨(RJ8, TJ8, 4), rfl, rfl, q2313, q809, q810, q91, q811, ⟨by decide +kernel, by decide +kernel, by decide +kernel⟩, by decide⟩
theorem kf_X8_19_15 : JF RX8 19 15 ⟨"java/lang/CharSequence", "length", "()I"⟩ yJ8_length cJ8_length 1 (some .int) 0 := ⟨(RJ8, TJ8, 4), rfl, q2315, q2319, q809, q91, q811, ⟨q2317, q2316, q2321, q2320, q2318⟩, ⟨by decide +kernel, by decide +kernel, by decide +kernel⟩, by decide⟩
theorem kf_X8_19_14 : JF RX8 19 14 ⟨"java/lang/CharSequence", "length", "()I"⟩ yJ7_length cJ7_length 1 (some .int) 0 := ⟨(RJ7, TJ7, 4), rfl, q2315, q2323, q897, q90, q898, ⟨q2317, q2316, q2325, q2324, q2322⟩, ⟨by decide +kernel, by decide +kernel, by decide +kernel⟩, by decide⟩
theorem kf_X8_25_15 : JF RX8 25 15 ⟨"java/lang/CharSequence", "charAt", "(I)C"⟩ yJ8_charAt cJ8_charAt 2 (some .char) 1 := ⟨(RJ8, TJ8, 4), rfl, q2327, q2330, q2239, q91, q2241, ⟨q2329, q2328, q2332, q2331, q2318⟩, ⟨by decide +kernel, by decide +kernel, by decide +kernel⟩, by decide⟩
theorem kf_X8_25_14 : JF RX8 25 14 ⟨"java/lang/CharSequence", "charAt", "(I)C"⟩ yJ7_charAt cJ7_charAt 2 (some .char) 1 := ⟨(RJ7, TJ7, 4), rfl, q2327, q2333, q2335, q90, q2337, ⟨q2329, q2328, q2336, q2334, q2322⟩, ⟨by decide +kernel, by decide +kernel, by decide +kernel⟩, by decide⟩
theorem ksu_J7_329 : JSU RJ7 329 14 yJ6_charAt cJ6_charAt 5 (some .char) 1 := ⟨(RJ7, TJ7, 4), rfl, q2338, q2994, q273, q2339, q89, q2340, by decide +kernel, by decide +kernel, by decide⟩
theorem km_J6_138 : JMn RJ6 138 := ⟨q2341, q568, q101, q569⟩
theorem ks_J6_144 : JS RJ6 144 yJ8_checkIndex cJ8_checkIndex 2 none 2 := ⟨q2342, q1853, q91, q1854, ⟨by decide +kernel, by decide +kernel, by decide +kernel⟩, by decide⟩
theorem ks_J6_148 : JS RJ6 148 yJ9_getChar cJ9_getChar 2 (some .char) 2 := ⟨q2343, q717, q92, q718, ⟨by decide +kernel, by decide +kernel, by decide +kernel⟩, by decide⟩
theorem kv_X8_59 : JV RX8 59 15 yJ8_charAt cJ8_charAt 2 (some .char) 1 := ⟨(RJ8, TJ8, 4), rfl, rfl, q2344, q2239, q2240, q91, q2241, ⟨by decide +kernel, by decide +kernel, by decide +kernel⟩, by decide⟩
theorem km_X8_64 : JMx RX8 64 := ⟨q2345, q521, q101, q522⟩
theorem kn_X8_37 : JLN RX8 37 7 [.null, .null, .null, .null, .null, .int 0, .int 0] := ⟨(RX9, TX9, 7), rfl, in_X9, ⟨tyX9, tyX9_ok, fun j hj => by have hj : j < 7 := hj; rcases (show j = 0 ∨ j = 1 ∨ j = 2 ∨ j = 3 ∨ j = 4 ∨ j = 5 ∨ j = 6 by omega) with rfl | rfl | rfl | rfl | rfl | rfl | rfl <;> rfl⟩, q2346, q2347, q127⟩
theorem kc_X8_37 : JLC RX8 37 7 := ⟨"CloudInterviews$SyntaxException", (RX9, TX9, 7), rfl, q2346, Or.inl rfl⟩
theorem ki_X8_39 : JI RX8 39 yX9_init cX9_init 2 1 := ⟨q2355, q2356, q127, q2357, rfl, ⟨by decide +kernel, by decide +kernel, by decide +kernel⟩, by decide⟩
theorem ki_X9_1 : JI RX9 1 yJ12_init_3 cJ12_init_3 5 4 := ⟨q2358, q2359, q96, q2360, rfl, ⟨by decide +kernel, by decide +kernel, by decide +kernel⟩, by decide⟩
theorem ki_J12_16 : JI RJ12 16 yJ11_init_3 cJ11_init_3 5 4 := ⟨q2361, q2362, q95, q2363, rfl, ⟨by decide +kernel, by decide +kernel, by decide +kernel⟩, by decide⟩
theorem kg_X9_7 : JLG RX9 7 7 6 := ⟨"CloudInterviews$SyntaxException", (RX9, TX9, 7), rfl, in_X9, by decide, Or.inl q2364, Or.inl rfl⟩
theorem kp_X9_7 : JLP RX9 7 7 6 .int true := ⟨kg_X9_7, fun r hr => by obtain rfl : (RX9, TX9, 7) = r := Option.some.inj hr; exact ⟨⟨tyX9, tyX9_ok, rfl⟩, nmX9, rfl, fun _ => rfl⟩⟩
theorem kg_X1_317 : JLG RX1 317 7 6 := ⟨"CloudInterviews$SyntaxException", (RX9, TX9, 7), rfl, in_X9, by decide, Or.inr ⟨"CloudInterviews", q2365⟩, Or.inl rfl⟩
theorem kv_X8_92 : JV RX8 92 15 yJ8_hashCode cJ8_hashCode 2 (some .int) 0 := ⟨(RJ8, TJ8, 4), rfl, rfl, q2370, q684, q2990, q91, q685, ⟨by decide +kernel, by decide +kernel, by decide +kernel⟩, by decide⟩
theorem kv_X8_95 : JV RX8 95 15 yJ8_equals cJ8_equals 3 (some .boolean) 1 := ⟨(RJ8, TJ8, 4), rfl, rfl, q2371, q1300, q2991, q91, q1301, ⟨by decide +kernel, by decide +kernel, by decide +kernel⟩, by decide⟩
theorem kn_X8_99 : JLN RX8 99 5 [.null, .null] := ⟨(RX7, TX7, 2), rfl, in_X7, ⟨tyX7, tyX7_ok, fun j hj => by have hj : j < 2 := hj; rcases (show j = 0 ∨ j = 1 by omega) with rfl | rfl <;> rfl⟩, q2372, q1460, q120⟩
theorem kc_X8_99 : JLC RX8 99 5 := ⟨"CloudInterviews$Command", (RX7, TX7, 2), rfl, q2372, Or.inl rfl⟩
theorem ki_X8_101 : JI RX8 101 yX7_init cX7_init 3 2 := ⟨q2373, q1462, q120, q1463, rfl, ⟨by decide +kernel, by decide +kernel, by decide +kernel⟩, by decide⟩
theorem kv_X8_104 : JV RX8 104 6 yX8_shape cX8_shape 3 (some .char) 1 := ⟨(RX8, TX8, 2), rfl, rfl, q2374, q2376, qs24, q126, q2377, ⟨by decide +kernel, by decide +kernel, by decide +kernel⟩, by decide⟩
theorem ks_X8_52 : JSN RX8 52 yX1_isShape cX1_isShape 1 (some .boolean) 1 := ⟨⟨"CloudInterviews", q2378⟩, q1494, q81, q1495, ⟨by decide +kernel, by decide +kernel, by decide +kernel⟩, by decide⟩
theorem kv_X8_49 : JV RX8 49 6 yX8_number cX8_number 3 (some .int) 0 := ⟨(RX8, TX8, 2), rfl, rfl, q2379, q2381, qs25, q126, q2382, ⟨by decide +kernel, by decide +kernel, by decide +kernel⟩, by decide⟩
theorem kv_X8_46 : JV RX8 46 6 yX8_digit cX8_digit 1 (some .int) 0 := ⟨(RX8, TX8, 2), rfl, rfl, q2383, q2385, qs26, q126, q2386, ⟨by decide +kernel, by decide +kernel, by decide +kernel⟩, by decide⟩
theorem kv_X8_42 : JV RX8 42 6 yX8_take cX8_take 3 (some .char) 2 := ⟨(RX8, TX8, 2), rfl, rfl, q2387, q2389, qs27, q126, q2390, ⟨by decide +kernel, by decide +kernel, by decide +kernel⟩, by decide⟩
theorem kv_X8_33 : JV RX8 33 6 yX8_isNext cX8_isNext 3 (some .boolean) 2 := ⟨(RX8, TX8, 2), rfl, rfl, q2391, q2393, qs28, q126, q2394, ⟨by decide +kernel, by decide +kernel, by decide +kernel⟩, by decide⟩
theorem ks_X8_29 : JSN RX8 29 yX1_inRange cX1_inRange 6 (some .boolean) 3 := ⟨⟨"CloudInterviews", q2395⟩, q1498, q81, q1499, ⟨by decide +kernel, by decide +kernel, by decide +kernel⟩, by decide⟩
theorem kv_X8_108 : JV RX8 108 6 yX8_numberAfter cX8_numberAfter 3 (some .int) 1 := ⟨(RX8, TX8, 2), rfl, rfl, q2396, q2398, qs29, q126, q2399, ⟨by decide +kernel, by decide +kernel, by decide +kernel⟩, by decide⟩
theorem kv_X8_119 : JV RX8 119 11 yJ4_add cJ4_add 2 (some .boolean) 1 := ⟨(RJ4, TJ4, 3), rfl, rfl, q2400, q502, q503, q87, q504, ⟨by decide +kernel, by decide +kernel, by decide +kernel⟩, by decide⟩
theorem ks_X0_347 : JSX RX0 347 yX0_errorPosition cX0_errorPosition 3 (some .int) [(0, 8, 11, 21)] 2 := ⟨q2401, q2402, q80, q2403, ⟨by decide +kernel, by decide +kernel, by decide +kernel⟩, by decide⟩
theorem kv_X0_149 : JV RX0 149 0 yX1_errorPosition cX1_errorPosition 1 (some .int) 0 := ⟨(RX1, TX1, 7), rfl, rfl, q2404, q2405, q2406, q81, q2407, ⟨by decide +kernel, by decide +kernel, by decide +kernel⟩, by decide⟩
theorem ks_X1_323 : JS RX1 323 yX1_kept cX1_kept 1 (some .int) 1 := ⟨q2408, q2409, q81, q2410, ⟨by decide +kernel, by decide +kernel, by decide +kernel⟩, by decide⟩
theorem ks_X0_350 : JSX RX0 350 yX0_failedCommand cX0_failedCommand 3 (some .int) [(0, 8, 11, 21)] 2 := ⟨q2411, q2412, q80, q2413, ⟨by decide +kernel, by decide +kernel, by decide +kernel⟩, by decide⟩
theorem kv_X0_152 : JV RX0 152 0 yX1_failedCommand cX1_failedCommand 1 (some .int) 0 := ⟨(RX1, TX1, 7), rfl, rfl, q2414, q2415, q2416, q81, q2417, ⟨by decide +kernel, by decide +kernel, by decide +kernel⟩, by decide⟩
theorem ks_X0_353 : JSX RX0 353 yX0_undo cX0_undo 3 (some .int) [(0, 8, 11, 15)] 2 := ⟨q2418, q2419, q80, q2420, ⟨by decide +kernel, by decide +kernel, by decide +kernel⟩, by decide⟩
theorem kv_X0_155 : JV RX0 155 0 yX1_undo cX1_undo 1 (some .int) 0 := ⟨(RX1, TX1, 7), rfl, rfl, q2421, q2422, q2423, q81, q2424, ⟨by decide +kernel, by decide +kernel, by decide +kernel⟩, by decide⟩
theorem kv_X1_326 : JV RX1 326 13 yJ5_isEmpty cJ5_isEmpty 1 (some .boolean) 0 := ⟨(RJ5, TJ5, 3), rfl, rfl, q2425, q2426, q2427, q88, q2428, ⟨by decide +kernel, by decide +kernel, by decide +kernel⟩, by decide⟩
theorem kv_X1_329 : JV RX1 329 13 yJ5_removeLast cJ5_removeLast 2 (some (.object "java/lang/Object")) 0 := ⟨(RJ5, TJ5, 3), rfl, rfl, q2429, q2430, q2431, q88, q2432, ⟨by decide +kernel, by decide +kernel, by decide +kernel⟩, by decide⟩
theorem kv_J5_100 : JV RJ5 100 13 yJ5_pollLast cJ5_pollLast 4 (some (.object "java/lang/Object")) 0 := ⟨(RJ5, TJ5, 3), rfl, rfl, q2433, q2434, q2435, q88, q2436, ⟨by decide +kernel, by decide +kernel, by decide +kernel⟩, by decide⟩
theorem ks_J5_68 : JS RJ5 68 yJ5_dec cJ5_dec 2 (some .int) 2 := ⟨q2437, q2438, q88, q2439, ⟨by decide +kernel, by decide +kernel, by decide +kernel⟩, by decide⟩
theorem ks_X0_364 : JSX RX0 364 yX0_restore cX0_restore 3 (some .int) [(0, 8, 11, 15)] 2 := ⟨q2440, q2441, q80, q2442, ⟨by decide +kernel, by decide +kernel, by decide +kernel⟩, by decide⟩
theorem kv_X0_158 : JV RX0 158 0 yX1_restore cX1_restore 1 (some .int) 0 := ⟨(RX1, TX1, 7), rfl, rfl, q2443, q2444, q2445, q81, q2446, ⟨by decide +kernel, by decide +kernel, by decide +kernel⟩, by decide⟩
theorem kv_X1_335 : JV RX1 335 13 yJ5_clear cJ5_clear 1 none 0 := ⟨(RJ5, TJ5, 3), rfl, rfl, q2447, q2448, q2449, q88, q2450, ⟨by decide +kernel, by decide +kernel, by decide +kernel⟩, by decide⟩
theorem ks_J5_181 : JS RJ5 181 yJ5_circularClear cJ5_circularClear 4 none 3 := ⟨q2451, q2452, q88, q2453, ⟨by decide +kernel, by decide +kernel, by decide +kernel⟩, by decide⟩
theorem kn_X0_162 : JLN RX0 162 8 [.null, .null, .null, .int 0, .null, .int 0, .int 0, .null, .int 0, .null, .int 0, .int 0, .int 0, .int 0, .int 0, .null, .int 0] := ⟨(RX3, TX3, 17), rfl, in_X3, ⟨tyX3, tyX3_ok, fun j hj => by have hj : j < 17 := hj; rcases (show j = 0 ∨ j = 1 ∨ j = 2 ∨ j = 3 ∨ j = 4 ∨ j = 5 ∨ j = 6 ∨ j = 7 ∨ j = 8 ∨ j = 9 ∨ j = 10 ∨ j = 11 ∨ j = 12 ∨ j = 13 ∨ j = 14 ∨ j = 15 ∨ j = 16 by omega) with rfl | rfl | rfl | rfl | rfl | rfl | rfl | rfl | rfl | rfl | rfl | rfl | rfl | rfl | rfl | rfl | rfl <;> rfl⟩, q2454, q2455, q93⟩
theorem kc_X0_162 : JLC RX0 162 8 := ⟨"CloudInterviewsModel", (RX3, TX3, 17), rfl, q2454, Or.inl rfl⟩
theorem ki_X0_164 : JI RX0 164 yX3_init cX3_init 1 0 := ⟨q2456, q2457, q93, q2458, rfl, ⟨by decide +kernel, by decide +kernel, by decide +kernel⟩, by decide⟩
theorem ko_X3_3 : JLO RX3 3 := ⟨q2459, q134, q135⟩
theorem kg_X3_9 : JLG RX3 9 8 0 := ⟨"CloudInterviewsModel", (RX3, TX3, 17), rfl, in_X3, by decide, Or.inl q2460, Or.inl rfl⟩
theorem kp_X3_9 : JLP RX3 9 8 0 (.array .int) true := ⟨kg_X3_9, fun r hr => by obtain rfl : (RX3, TX3, 17) = r := Option.some.inj hr; exact ⟨⟨tyX3, tyX3_ok, rfl⟩, nmX3, rfl, fun _ => rfl⟩⟩
theorem kg_X3_13 : JLG RX3 13 8 1 := ⟨"CloudInterviewsModel", (RX3, TX3, 17), rfl, in_X3, by decide, Or.inl q2461, Or.inl rfl⟩
theorem kp_X3_13 : JLP RX3 13 8 1 (.array .int) true := ⟨kg_X3_13, fun r hr => by obtain rfl : (RX3, TX3, 17) = r := Option.some.inj hr; exact ⟨⟨tyX3, tyX3_ok, rfl⟩, nmX3, rfl, fun _ => rfl⟩⟩
theorem kg_X3_16 : JLG RX3 16 8 2 := ⟨"CloudInterviewsModel", (RX3, TX3, 17), rfl, in_X3, by decide, Or.inl q2462, Or.inl rfl⟩
theorem kp_X3_16 : JLP RX3 16 8 2 (.array .int) true := ⟨kg_X3_16, fun r hr => by obtain rfl : (RX3, TX3, 17) = r := Option.some.inj hr; exact ⟨⟨tyX3, tyX3_ok, rfl⟩, nmX3, rfl, fun _ => rfl⟩⟩
theorem kg_X3_291 : JLG RX3 291 8 3 := ⟨"CloudInterviewsModel", (RX3, TX3, 17), rfl, in_X3, by decide, Or.inl q2463, Or.inl rfl⟩
theorem kp_X3_291 : JLP RX3 291 8 3 .boolean false := ⟨kg_X3_291, fun r hr => by obtain rfl : (RX3, TX3, 17) = r := Option.some.inj hr; exact ⟨⟨tyX3, tyX3_ok, rfl⟩, nmX3, rfl, fun h => by cases h⟩⟩
theorem kg_X3_19 : JLG RX3 19 8 4 := ⟨"CloudInterviewsModel", (RX3, TX3, 17), rfl, in_X3, by decide, Or.inl q2464, Or.inl rfl⟩
theorem kp_X3_19 : JLP RX3 19 8 4 (.array .int) true := ⟨kg_X3_19, fun r hr => by obtain rfl : (RX3, TX3, 17) = r := Option.some.inj hr; exact ⟨⟨tyX3, tyX3_ok, rfl⟩, nmX3, rfl, fun _ => rfl⟩⟩
theorem kg_X3_48 : JLG RX3 48 8 5 := ⟨"CloudInterviewsModel", (RX3, TX3, 17), rfl, in_X3, by decide, Or.inl q2465, Or.inl rfl⟩
theorem kp_X3_48 : JLP RX3 48 8 5 .int false := ⟨kg_X3_48, fun r hr => by obtain rfl : (RX3, TX3, 17) = r := Option.some.inj hr; exact ⟨⟨tyX3, tyX3_ok, rfl⟩, nmX3, rfl, fun h => by cases h⟩⟩
theorem kg_X3_39 : JLG RX3 39 8 6 := ⟨"CloudInterviewsModel", (RX3, TX3, 17), rfl, in_X3, by decide, Or.inl q2466, Or.inl rfl⟩
theorem kp_X3_39 : JLP RX3 39 8 6 .int false := ⟨kg_X3_39, fun r hr => by obtain rfl : (RX3, TX3, 17) = r := Option.some.inj hr; exact ⟨⟨tyX3, tyX3_ok, rfl⟩, nmX3, rfl, fun h => by cases h⟩⟩
theorem kg_X3_22 : JLG RX3 22 8 7 := ⟨"CloudInterviewsModel", (RX3, TX3, 17), rfl, in_X3, by decide, Or.inl q2467, Or.inl rfl⟩
theorem kp_X3_22 : JLP RX3 22 8 7 (.array .char) true := ⟨kg_X3_22, fun r hr => by obtain rfl : (RX3, TX3, 17) = r := Option.some.inj hr; exact ⟨⟨tyX3, tyX3_ok, rfl⟩, nmX3, rfl, fun _ => rfl⟩⟩
theorem kg_X3_207 : JLG RX3 207 8 8 := ⟨"CloudInterviewsModel", (RX3, TX3, 17), rfl, in_X3, by decide, Or.inl q2468, Or.inl rfl⟩
theorem kp_X3_207 : JLP RX3 207 8 8 .int false := ⟨kg_X3_207, fun r hr => by obtain rfl : (RX3, TX3, 17) = r := Option.some.inj hr; exact ⟨⟨tyX3, tyX3_ok, rfl⟩, nmX3, rfl, fun h => by cases h⟩⟩
theorem kg_X3_26 : JLG RX3 26 8 9 := ⟨"CloudInterviewsModel", (RX3, TX3, 17), rfl, in_X3, by decide, Or.inl q2469, Or.inl rfl⟩
theorem kp_X3_26 : JLP RX3 26 8 9 (.array .char) true := ⟨kg_X3_26, fun r hr => by obtain rfl : (RX3, TX3, 17) = r := Option.some.inj hr; exact ⟨⟨tyX3, tyX3_ok, rfl⟩, nmX3, rfl, fun _ => rfl⟩⟩
theorem kg_X3_220 : JLG RX3 220 8 10 := ⟨"CloudInterviewsModel", (RX3, TX3, 17), rfl, in_X3, by decide, Or.inl q2470, Or.inl rfl⟩
theorem kp_X3_220 : JLP RX3 220 8 10 .int false := ⟨kg_X3_220, fun r hr => by obtain rfl : (RX3, TX3, 17) = r := Option.some.inj hr; exact ⟨⟨tyX3, tyX3_ok, rfl⟩, nmX3, rfl, fun h => by cases h⟩⟩
theorem kg_X3_223 : JLG RX3 223 8 11 := ⟨"CloudInterviewsModel", (RX3, TX3, 17), rfl, in_X3, by decide, Or.inl q2471, Or.inl rfl⟩
theorem kp_X3_223 : JLP RX3 223 8 11 .int false := ⟨kg_X3_223, fun r hr => by obtain rfl : (RX3, TX3, 17) = r := Option.some.inj hr; exact ⟨⟨tyX3, tyX3_ok, rfl⟩, nmX3, rfl, fun h => by cases h⟩⟩
theorem kg_X3_230 : JLG RX3 230 8 12 := ⟨"CloudInterviewsModel", (RX3, TX3, 17), rfl, in_X3, by decide, Or.inl q2472, Or.inl rfl⟩
theorem kp_X3_230 : JLP RX3 230 8 12 .boolean false := ⟨kg_X3_230, fun r hr => by obtain rfl : (RX3, TX3, 17) = r := Option.some.inj hr; exact ⟨⟨tyX3, tyX3_ok, rfl⟩, nmX3, rfl, fun h => by cases h⟩⟩
theorem kg_X3_29 : JLG RX3 29 8 13 := ⟨"CloudInterviewsModel", (RX3, TX3, 17), rfl, in_X3, by decide, Or.inl q2473, Or.inl rfl⟩
theorem kp_X3_29 : JLP RX3 29 8 13 .int false := ⟨kg_X3_29, fun r hr => by obtain rfl : (RX3, TX3, 17) = r := Option.some.inj hr; exact ⟨⟨tyX3, tyX3_ok, rfl⟩, nmX3, rfl, fun h => by cases h⟩⟩
theorem kg_X3_33 : JLG RX3 33 8 14 := ⟨"CloudInterviewsModel", (RX3, TX3, 17), rfl, in_X3, by decide, Or.inl q2474, Or.inl rfl⟩
theorem kp_X3_33 : JLP RX3 33 8 14 .int false := ⟨kg_X3_33, fun r hr => by obtain rfl : (RX3, TX3, 17) = r := Option.some.inj hr; exact ⟨⟨tyX3, tyX3_ok, rfl⟩, nmX3, rfl, fun h => by cases h⟩⟩
theorem kg_X3_36 : JLG RX3 36 8 15 := ⟨"CloudInterviewsModel", (RX3, TX3, 17), rfl, in_X3, by decide, Or.inl q2475, Or.inl rfl⟩
theorem kp_X3_36 : JLP RX3 36 8 15 (.array .int) true := ⟨kg_X3_36, fun r hr => by obtain rfl : (RX3, TX3, 17) = r := Option.some.inj hr; exact ⟨⟨tyX3, tyX3_ok, rfl⟩, nmX3, rfl, fun _ => rfl⟩⟩
theorem kg_X3_245 : JLG RX3 245 8 16 := ⟨"CloudInterviewsModel", (RX3, TX3, 17), rfl, in_X3, by decide, Or.inl q2476, Or.inl rfl⟩
theorem kp_X3_245 : JLP RX3 245 8 16 .int false := ⟨kg_X3_245, fun r hr => by obtain rfl : (RX3, TX3, 17) = r := Option.some.inj hr; exact ⟨⟨tyX3, tyX3_ok, rfl⟩, nmX3, rfl, fun h => by cases h⟩⟩
theorem kv_X0_171 : JV RX0 171 8 yX3_thrown cX3_thrown 1 (some .int) 0 := ⟨(RX3, TX3, 17), rfl, rfl, q2513, q2514, q2515, q93, q2516, ⟨by decide +kernel, by decide +kernel, by decide +kernel⟩, by decide⟩
theorem kv_X0_170 : JV RX0 170 8 yX3_addApplicant cX3_addApplicant 4 (some .int) 3 := ⟨(RX3, TX3, 17), rfl, rfl, q2517, q2518, q2519, q93, q2520, ⟨by decide +kernel, by decide +kernel, by decide +kernel⟩, by decide⟩
theorem kv_X3_93 : JV RX3 93 8 yX3_keep cX3_keep 1 none 0 := ⟨(RX3, TX3, 17), rfl, rfl, q2521, q2523, qs30, q93, q2524, ⟨by decide +kernel, by decide +kernel, by decide +kernel⟩, by decide⟩
theorem kcp_X3_42 : JCp RX3 42 := ⟨q2525, q572, q571, q103⟩
theorem kv_X3_96 : JV RX3 96 8 yX3_doAddApplicant cX3_doAddApplicant 6 (some .int) 3 := ⟨(RX3, TX3, 17), rfl, rfl, q2526, q2528, qs31, q93, q2529, ⟨by decide +kernel, by decide +kernel, by decide +kernel⟩, by decide⟩
theorem ks_X3_79 : JS RX3 79 yX3_isShape cX3_isShape 1 (some .boolean) 1 := ⟨q2530, q2531, q93, q2532, ⟨by decide +kernel, by decide +kernel, by decide +kernel⟩, by decide⟩
theorem ks_X3_51 : JS RX3 51 yX3_in cX3_in 3 (some .boolean) 3 := ⟨q2533, q2534, q93, q2535, ⟨by decide +kernel, by decide +kernel, by decide +kernel⟩, by decide⟩
theorem kv_X3_82 : JV RX3 82 8 yX3_fails cX3_fails 2 (some .int) 1 := ⟨(RX3, TX3, 17), rfl, rfl, q2536, q2538, qs32, q93, q2539, ⟨by decide +kernel, by decide +kernel, by decide +kernel⟩, by decide⟩
theorem kv_X3_85 : JV RX3 85 8 yX3_applicants cX3_applicants 3 (some .int) 0 := ⟨(RX3, TX3, 17), rfl, rfl, q2540, q2542, qs33, q93, q2543, ⟨by decide +kernel, by decide +kernel, by decide +kernel⟩, by decide⟩
theorem kv_X3_62 : JV RX3 62 8 yX3_isUsed cX3_isUsed 2 (some .boolean) 1 := ⟨(RX3, TX3, 17), rfl, rfl, q2544, q2546, qs34, q93, q2547, ⟨by decide +kernel, by decide +kernel, by decide +kernel⟩, by decide⟩
theorem kv_X3_55 : JV RX3 55 8 yX3_of cX3_of 3 (some .int) 2 := ⟨(RX3, TX3, 17), rfl, rfl, q2548, q2550, qs35, q93, q2551, ⟨by decide +kernel, by decide +kernel, by decide +kernel⟩, by decide⟩
theorem kv_X3_89 : JV RX3 89 8 yX3_sets cX3_sets 4 none 3 := ⟨(RX3, TX3, 17), rfl, rfl, q2552, q2554, qs36, q93, q2555, ⟨by decide +kernel, by decide +kernel, by decide +kernel⟩, by decide⟩
theorem kv_X3_100 : JV RX3 100 8 yX3_ends cX3_ends 2 (some .int) 1 := ⟨(RX3, TX3, 17), rfl, rfl, q2556, q2558, qs37, q93, q2559, ⟨by decide +kernel, by decide +kernel, by decide +kernel⟩, by decide⟩
theorem kv_X0_177 : JV RX0 177 8 yX3_removeApplicant cX3_removeApplicant 2 (some .int) 1 := ⟨(RX3, TX3, 17), rfl, rfl, q2560, q2561, q2562, q93, q2563, ⟨by decide +kernel, by decide +kernel, by decide +kernel⟩, by decide⟩
theorem kv_X3_110 : JV RX3 110 8 yX3_doRemoveApplicant cX3_doRemoveApplicant 4 (some .int) 1 := ⟨(RX3, TX3, 17), rfl, rfl, q2564, q2566, qs38, q93, q2567, ⟨by decide +kernel, by decide +kernel, by decide +kernel⟩, by decide⟩
theorem kv_X3_103 : JV RX3 103 8 yX3_slotOf cX3_slotOf 4 (some .int) 1 := ⟨(RX3, TX3, 17), rfl, rfl, q2568, q2570, qs39, q93, q2571, ⟨by decide +kernel, by decide +kernel, by decide +kernel⟩, by decide⟩
theorem kv_X3_106 : JV RX3 106 8 yX3_goes cX3_goes 4 none 1 := ⟨(RX3, TX3, 17), rfl, rfl, q2572, q2574, qs40, q93, q2575, ⟨by decide +kernel, by decide +kernel, by decide +kernel⟩, by decide⟩
theorem kv_X3_66 : JV RX3 66 8 yX3_filledWith cX3_filledWith 4 (some .int) 1 := ⟨(RX3, TX3, 17), rfl, rfl, q2576, q2578, qs41, q93, q2579, ⟨by decide +kernel, by decide +kernel, by decide +kernel⟩, by decide⟩
theorem kv_X3_59 : JV RX3 59 8 yX3_ofPost cX3_ofPost 3 (some .int) 2 := ⟨(RX3, TX3, 17), rfl, rfl, q2580, q2582, qs42, q93, q2583, ⟨by decide +kernel, by decide +kernel, by decide +kernel⟩, by decide⟩
theorem kv_X0_180 : JV RX0 180 8 yX3_rejectRainy cX3_rejectRainy 2 (some .int) 1 := ⟨(RX3, TX3, 17), rfl, rfl, q2584, q2585, q2586, q93, q2587, ⟨by decide +kernel, by decide +kernel, by decide +kernel⟩, by decide⟩
theorem kv_X3_116 : JV RX3 116 8 yX3_doRejectRainy cX3_doRejectRainy 4 (some .int) 1 := ⟨(RX3, TX3, 17), rfl, rfl, q2588, q2590, qs43, q93, q2591, ⟨by decide +kernel, by decide +kernel, by decide +kernel⟩, by decide⟩
theorem kv_X3_113 : JV RX3 113 8 yX3_isWaiting cX3_isWaiting 2 (some .boolean) 1 := ⟨(RX3, TX3, 17), rfl, rfl, q2592, q2594, qs44, q93, q2595, ⟨by decide +kernel, by decide +kernel, by decide +kernel⟩, by decide⟩
theorem kv_X0_184 : JV RX0 184 8 yX3_applicantCount cX3_applicantCount 1 (some .int) 0 := ⟨(RX3, TX3, 17), rfl, rfl, q2596, q2597, q2598, q93, q2599, ⟨by decide +kernel, by decide +kernel, by decide +kernel⟩, by decide⟩
theorem kv_X0_188 : JV RX0 188 8 yX3_waitingCount cX3_waitingCount 3 (some .int) 0 := ⟨(RX3, TX3, 17), rfl, rfl, q2600, q2601, q2602, q93, q2603, ⟨by decide +kernel, by decide +kernel, by decide +kernel⟩, by decide⟩
theorem kv_X0_191 : JV RX0 191 8 yX3_applicant cX3_applicant 7 (some .int) 1 := ⟨(RX3, TX3, 17), rfl, rfl, q2604, q2605, q2606, q93, q2607, ⟨by decide +kernel, by decide +kernel, by decide +kernel⟩, by decide⟩
theorem kv_X3_119 : JV RX3 119 8 yX3_isThere cX3_isThere 2 (some .boolean) 1 := ⟨(RX3, TX3, 17), rfl, rfl, q2608, q2610, qs45, q93, q2611, ⟨by decide +kernel, by decide +kernel, by decide +kernel⟩, by decide⟩
theorem kv_X3_76 : JV RX3 76 8 yX3_idOf cX3_idOf 2 (some .int) 1 := ⟨(RX3, TX3, 17), rfl, rfl, q2612, q2614, qs46, q93, q2615, ⟨by decide +kernel, by decide +kernel, by decide +kernel⟩, by decide⟩
theorem kv_X0_194 : JV RX0 194 8 yX3_shape cX3_shape 3 (some .char) 1 := ⟨(RX3, TX3, 17), rfl, rfl, q2616, q2617, q2618, q93, q2619, ⟨by decide +kernel, by decide +kernel, by decide +kernel⟩, by decide⟩
theorem kv_X3_123 : JV RX3 123 8 yX3_told cX3_told 4 (some .int) 2 := ⟨(RX3, TX3, 17), rfl, rfl, q2620, q2622, qs47, q93, q2623, ⟨by decide +kernel, by decide +kernel, by decide +kernel⟩, by decide⟩
theorem kv_X0_197 : JV RX0 197 8 yX3_whiteness cX3_whiteness 2 (some .int) 1 := ⟨(RX3, TX3, 17), rfl, rfl, q2624, q2625, q2626, q93, q2627, ⟨by decide +kernel, by decide +kernel, by decide +kernel⟩, by decide⟩
theorem kv_X0_200 : JV RX0 200 8 yX3_rain cX3_rain 2 (some .int) 1 := ⟨(RX3, TX3, 17), rfl, rfl, q2628, q2629, q2630, q93, q2631, ⟨by decide +kernel, by decide +kernel, by decide +kernel⟩, by decide⟩
theorem kv_X0_203 : JV RX0 203 8 yX3_coins cX3_coins 2 (some .int) 1 := ⟨(RX3, TX3, 17), rfl, rfl, q2632, q2633, q2634, q93, q2635, ⟨by decide +kernel, by decide +kernel, by decide +kernel⟩, by decide⟩
theorem kv_X0_206 : JV RX0 206 8 yX3_isHired cX3_isHired 3 (some .boolean) 1 := ⟨(RX3, TX3, 17), rfl, rfl, q2636, q2637, q2638, q93, q2639, ⟨by decide +kernel, by decide +kernel, by decide +kernel⟩, by decide⟩
theorem kv_X0_209 : JV RX0 209 8 yX3_postOf cX3_postOf 4 (some .int) 1 := ⟨(RX3, TX3, 17), rfl, rfl, q2640, q2641, q2642, q93, q2643, ⟨by decide +kernel, by decide +kernel, by decide +kernel⟩, by decide⟩
theorem kv_X0_212 : JV RX0 212 8 yX3_score cX3_score 3 (some .int) 1 := ⟨(RX3, TX3, 17), rfl, rfl, q2644, q2645, q2646, q93, q2647, ⟨by decide +kernel, by decide +kernel, by decide +kernel⟩, by decide⟩
theorem kv_X3_73 : JV RX3 73 8 yX3_points cX3_points 2 (some .int) 1 := ⟨(RX3, TX3, 17), rfl, rfl, q2648, q2650, qs48, q93, q2651, ⟨by decide +kernel, by decide +kernel, by decide +kernel⟩, by decide⟩
theorem ks_X3_70 : JS RX3 70 yX3_bits cX3_bits 3 (some .int) 1 := ⟨q2652, q2653, q93, q2654, ⟨by decide +kernel, by decide +kernel, by decide +kernel⟩, by decide⟩
theorem kv_X0_215 : JV RX0 215 8 yX3_applicantByScore cX3_applicantByScore 7 (some .int) 1 := ⟨(RX3, TX3, 17), rfl, rfl, q2655, q2656, q2657, q93, q2658, ⟨by decide +kernel, by decide +kernel, by decide +kernel⟩, by decide⟩
theorem kv_X3_126 : JV RX3 126 8 yX3_isBetter cX3_isBetter 4 (some .boolean) 2 := ⟨(RX3, TX3, 17), rfl, rfl, q2659, q2661, qs49, q93, q2662, ⟨by decide +kernel, by decide +kernel, by decide +kernel⟩, by decide⟩
theorem kv_X0_219 : JV RX0 219 8 yX3_addReference cX3_addReference 3 (some .int) 2 := ⟨(RX3, TX3, 17), rfl, rfl, q2663, q2664, q2665, q93, q2666, ⟨by decide +kernel, by decide +kernel, by decide +kernel⟩, by decide⟩
theorem kv_X3_130 : JV RX3 130 8 yX3_doAddReference cX3_doAddReference 6 (some .int) 2 := ⟨(RX3, TX3, 17), rfl, rfl, q2667, q2669, qs50, q93, q2670, ⟨by decide +kernel, by decide +kernel, by decide +kernel⟩, by decide⟩
theorem kv_X0_222 : JV RX0 222 8 yX3_removeReference cX3_removeReference 3 (some .int) 2 := ⟨(RX3, TX3, 17), rfl, rfl, q2671, q2672, q2673, q93, q2674, ⟨by decide +kernel, by decide +kernel, by decide +kernel⟩, by decide⟩
theorem kv_X3_136 : JV RX3 136 8 yX3_doRemoveReference cX3_doRemoveReference 4 (some .int) 2 := ⟨(RX3, TX3, 17), rfl, rfl, q2675, q2677, qs51, q93, q2678, ⟨by decide +kernel, by decide +kernel, by decide +kernel⟩, by decide⟩
theorem kv_X3_133 : JV RX3 133 8 yX3_isGiven cX3_isGiven 5 (some .boolean) 2 := ⟨(RX3, TX3, 17), rfl, rfl, q2679, q2681, qs52, q93, q2682, ⟨by decide +kernel, by decide +kernel, by decide +kernel⟩, by decide⟩
theorem kv_X0_225 : JV RX0 225 8 yX3_hasReference cX3_hasReference 3 (some .boolean) 2 := ⟨(RX3, TX3, 17), rfl, rfl, q2683, q2684, q2685, q93, q2686, ⟨by decide +kernel, by decide +kernel, by decide +kernel⟩, by decide⟩
theorem kv_X0_228 : JV RX0 228 8 yX3_referencesFor cX3_referencesFor 3 (some .int) 1 := ⟨(RX3, TX3, 17), rfl, rfl, q2687, q2688, q2689, q93, q2690, ⟨by decide +kernel, by decide +kernel, by decide +kernel⟩, by decide⟩
theorem kv_X0_231 : JV RX0 231 8 yX3_referencesFrom cX3_referencesFrom 6 (some .int) 1 := ⟨(RX3, TX3, 17), rfl, rfl, q2691, q2692, q2693, q93, q2694, ⟨by decide +kernel, by decide +kernel, by decide +kernel⟩, by decide⟩
theorem kv_X0_235 : JV RX0 235 8 yX3_openPost cX3_openPost 5 (some .int) 4 := ⟨(RX3, TX3, 17), rfl, rfl, q2695, q2696, q2697, q93, q2698, ⟨by decide +kernel, by decide +kernel, by decide +kernel⟩, by decide⟩
theorem kv_X3_139 : JV RX3 139 8 yX3_doOpenPost cX3_doOpenPost 8 (some .int) 4 := ⟨(RX3, TX3, 17), rfl, rfl, q2699, q2701, qs53, q93, q2702, ⟨by decide +kernel, by decide +kernel, by decide +kernel⟩, by decide⟩
theorem kv_X0_238 : JV RX0 238 8 yX3_closePost cX3_closePost 2 (some .boolean) 1 := ⟨(RX3, TX3, 17), rfl, rfl, q2703, q2704, q2705, q93, q2706, ⟨by decide +kernel, by decide +kernel, by decide +kernel⟩, by decide⟩
theorem kv_X3_146 : JV RX3 146 8 yX3_doClosePost cX3_doClosePost 5 (some .int) 1 := ⟨(RX3, TX3, 17), rfl, rfl, q2707, q2709, qs54, q93, q2710, ⟨by decide +kernel, by decide +kernel, by decide +kernel⟩, by decide⟩
theorem kv_X3_143 : JV RX3 143 8 yX3_isPost cX3_isPost 2 (some .boolean) 1 := ⟨(RX3, TX3, 17), rfl, rfl, q2711, q2713, qs55, q93, q2714, ⟨by decide +kernel, by decide +kernel, by decide +kernel⟩, by decide⟩
theorem kv_X0_242 : JV RX0 242 8 yX3_postCount cX3_postCount 1 (some .int) 0 := ⟨(RX3, TX3, 17), rfl, rfl, q2715, q2716, q2717, q93, q2718, ⟨by decide +kernel, by decide +kernel, by decide +kernel⟩, by decide⟩
theorem kv_X0_246 : JV RX0 246 8 yX3_vacantCount cX3_vacantCount 1 (some .int) 0 := ⟨(RX3, TX3, 17), rfl, rfl, q2719, q2720, q2721, q93, q2722, ⟨by decide +kernel, by decide +kernel, by decide +kernel⟩, by decide⟩
theorem kv_X3_149 : JV RX3 149 8 yX3_vacancies cX3_vacancies 3 (some .int) 0 := ⟨(RX3, TX3, 17), rfl, rfl, q2723, q2725, qs56, q93, q2726, ⟨by decide +kernel, by decide +kernel, by decide +kernel⟩, by decide⟩
theorem kv_X0_249 : JV RX0 249 8 yX3_requiredShape cX3_requiredShape 2 (some .char) 1 := ⟨(RX3, TX3, 17), rfl, rfl, q2727, q2728, q2729, q93, q2730, ⟨by decide +kernel, by decide +kernel, by decide +kernel⟩, by decide⟩
theorem kv_X0_252 : JV RX0 252 8 yX3_lowestWhiteness cX3_lowestWhiteness 2 (some .int) 1 := ⟨(RX3, TX3, 17), rfl, rfl, q2731, q2732, q2733, q93, q2734, ⟨by decide +kernel, by decide +kernel, by decide +kernel⟩, by decide⟩
theorem kv_X0_255 : JV RX0 255 8 yX3_highestRain cX3_highestRain 2 (some .int) 1 := ⟨(RX3, TX3, 17), rfl, rfl, q2735, q2736, q2737, q93, q2738, ⟨by decide +kernel, by decide +kernel, by decide +kernel⟩, by decide⟩
theorem kv_X0_258 : JV RX0 258 8 yX3_wage cX3_wage 2 (some .int) 1 := ⟨(RX3, TX3, 17), rfl, rfl, q2739, q2740, q2741, q93, q2742, ⟨by decide +kernel, by decide +kernel, by decide +kernel⟩, by decide⟩
theorem kv_X0_261 : JV RX0 261 8 yX3_filledBy cX3_filledBy 2 (some .int) 1 := ⟨(RX3, TX3, 17), rfl, rfl, q2743, q2744, q2745, q93, q2746, ⟨by decide +kernel, by decide +kernel, by decide +kernel⟩, by decide⟩
theorem kv_X0_264 : JV RX0 264 8 yX3_suits cX3_suits 4 (some .boolean) 2 := ⟨(RX3, TX3, 17), rfl, rfl, q2747, q2748, q2749, q93, q2750, ⟨by decide +kernel, by decide +kernel, by decide +kernel⟩, by decide⟩
theorem kv_X3_152 : JV RX3 152 8 yX3_fits cX3_fits 4 (some .boolean) 2 := ⟨(RX3, TX3, 17), rfl, rfl, q2751, q2753, qs57, q93, q2754, ⟨by decide +kernel, by decide +kernel, by decide +kernel⟩, by decide⟩
theorem kv_X0_267 : JV RX0 267 8 yX3_favouritePost cX3_favouritePost 4 (some .int) 1 := ⟨(RX3, TX3, 17), rfl, rfl, q2755, q2756, q2757, q93, q2758, ⟨by decide +kernel, by decide +kernel, by decide +kernel⟩, by decide⟩
theorem kv_X3_158 : JV RX3 158 8 yX3_favourite cX3_favourite 6 (some .int) 2 := ⟨(RX3, TX3, 17), rfl, rfl, q2759, q2761, qs58, q93, q2762, ⟨by decide +kernel, by decide +kernel, by decide +kernel⟩, by decide⟩
theorem kv_X3_155 : JV RX3 155 8 yX3_isPreferred cX3_isPreferred 4 (some .boolean) 2 := ⟨(RX3, TX3, 17), rfl, rfl, q2763, q2765, qs59, q93, q2766, ⟨by decide +kernel, by decide +kernel, by decide +kernel⟩, by decide⟩
theorem kv_X0_270 : JV RX0 270 8 yX3_bestCandidate cX3_bestCandidate 2 (some .int) 1 := ⟨(RX3, TX3, 17), rfl, rfl, q2767, q2768, q2769, q93, q2770, ⟨by decide +kernel, by decide +kernel, by decide +kernel⟩, by decide⟩
theorem kv_X3_162 : JV RX3 162 8 yX3_candidate cX3_candidate 5 (some .int) 1 := ⟨(RX3, TX3, 17), rfl, rfl, q2771, q2773, qs60, q93, q2774, ⟨by decide +kernel, by decide +kernel, by decide +kernel⟩, by decide⟩
theorem kv_X0_273 : JV RX0 273 8 yX3_candidateCount cX3_candidateCount 5 (some .int) 1 := ⟨(RX3, TX3, 17), rfl, rfl, q2775, q2776, q2777, q93, q2778, ⟨by decide +kernel, by decide +kernel, by decide +kernel⟩, by decide⟩
theorem kv_X0_276 : JV RX0 276 8 yX3_hire cX3_hire 3 (some .int) 2 := ⟨(RX3, TX3, 17), rfl, rfl, q2779, q2780, q2781, q93, q2782, ⟨by decide +kernel, by decide +kernel, by decide +kernel⟩, by decide⟩
theorem kv_X3_169 : JV RX3 169 8 yX3_doHire cX3_doHire 4 (some .int) 2 := ⟨(RX3, TX3, 17), rfl, rfl, q2783, q2785, qs61, q93, q2786, ⟨by decide +kernel, by decide +kernel, by decide +kernel⟩, by decide⟩
theorem kv_X3_165 : JV RX3 165 8 yX3_fills cX3_fills 3 none 2 := ⟨(RX3, TX3, 17), rfl, rfl, q2787, q2789, qs62, q93, q2790, ⟨by decide +kernel, by decide +kernel, by decide +kernel⟩, by decide⟩
theorem kv_X0_279 : JV RX0 279 8 yX3_hireBest cX3_hireBest 2 (some .int) 1 := ⟨(RX3, TX3, 17), rfl, rfl, q2791, q2792, q2793, q93, q2794, ⟨by decide +kernel, by decide +kernel, by decide +kernel⟩, by decide⟩
theorem kv_X3_172 : JV RX3 172 8 yX3_doHireBest cX3_doHireBest 3 (some .int) 1 := ⟨(RX3, TX3, 17), rfl, rfl, q2795, q2797, qs63, q93, q2798, ⟨by decide +kernel, by decide +kernel, by decide +kernel⟩, by decide⟩
theorem kv_X0_282 : JV RX0 282 8 yX3_dismiss cX3_dismiss 2 (some .int) 1 := ⟨(RX3, TX3, 17), rfl, rfl, q2799, q2800, q2801, q93, q2802, ⟨by decide +kernel, by decide +kernel, by decide +kernel⟩, by decide⟩
theorem kv_X3_175 : JV RX3 175 8 yX3_doDismiss cX3_doDismiss 3 (some .int) 1 := ⟨(RX3, TX3, 17), rfl, rfl, q2803, q2805, qs64, q93, q2806, ⟨by decide +kernel, by decide +kernel, by decide +kernel⟩, by decide⟩
theorem kv_X0_286 : JV RX0 286 8 yX3_match cX3_match 1 (some .int) 0 := ⟨(RX3, TX3, 17), rfl, rfl, q2807, q2808, q2809, q93, q2810, ⟨by decide +kernel, by decide +kernel, by decide +kernel⟩, by decide⟩
theorem kv_X3_181 : JV RX3 181 8 yX3_doMatch cX3_doMatch 3 (some .int) 0 := ⟨(RX3, TX3, 17), rfl, rfl, q2811, q2813, qs65, q93, q2814, ⟨by decide +kernel, by decide +kernel, by decide +kernel⟩, by decide⟩
theorem kv_X3_178 : JV RX3 178 8 yX3_nextToHire cX3_nextToHire 4 (some .int) 0 := ⟨(RX3, TX3, 17), rfl, rfl, q2815, q2817, qs66, q93, q2818, ⟨by decide +kernel, by decide +kernel, by decide +kernel⟩, by decide⟩
theorem kv_X0_290 : JV RX0 290 8 yX3_mostHires cX3_mostHires 7 (some .int) 0 := ⟨(RX3, TX3, 17), rfl, rfl, q2819, q2820, q2821, q93, q2822, ⟨by decide +kernel, by decide +kernel, by decide +kernel⟩, by decide⟩
theorem km_X3_184 : JMx RX3 184 := ⟨q2823, q521, q101, q522⟩
theorem kv_X0_294 : JV RX0 294 8 yX3_mostHiresBySets cX3_mostHiresBySets 1 (some .int) 0 := ⟨(RX3, TX3, 17), rfl, rfl, q2824, q2825, q2826, q93, q2827, ⟨by decide +kernel, by decide +kernel, by decide +kernel⟩, by decide⟩
theorem kv_X3_189 : JV RX3 189 8 yX3_mostHires cX3_mostHires 7 (some .int) 0 := ⟨(RX3, TX3, 17), rfl, rfl, q2828, q2820, q2821, q93, q2822, ⟨by decide +kernel, by decide +kernel, by decide +kernel⟩, by decide⟩
theorem kv_X0_298 : JV RX0 298 8 yX3_blockingPairs cX3_blockingPairs 4 (some .int) 0 := ⟨(RX3, TX3, 17), rfl, rfl, q2829, q2830, q2831, q93, q2832, ⟨by decide +kernel, by decide +kernel, by decide +kernel⟩, by decide⟩
theorem kv_X3_192 : JV RX3 192 8 yX3_isBlocking cX3_isBlocking 5 (some .boolean) 2 := ⟨(RX3, TX3, 17), rfl, rfl, q2833, q2835, qs67, q93, q2836, ⟨by decide +kernel, by decide +kernel, by decide +kernel⟩, by decide⟩
theorem kv_X0_302 : JV RX0 302 8 yX3_blockingPairsByPreference cX3_blockingPairsByPreference 1 (some .int) 0 := ⟨(RX3, TX3, 17), rfl, rfl, q2837, q2838, q2839, q93, q2840, ⟨by decide +kernel, by decide +kernel, by decide +kernel⟩, by decide⟩
theorem kv_X3_195 : JV RX3 195 8 yX3_blockingPairs cX3_blockingPairs 4 (some .int) 0 := ⟨(RX3, TX3, 17), rfl, rfl, q2841, q2830, q2831, q93, q2832, ⟨by decide +kernel, by decide +kernel, by decide +kernel⟩, by decide⟩
theorem kv_X0_305 : JV RX0 305 8 yX3_passDays cX3_passDays 2 (some .int) 1 := ⟨(RX3, TX3, 17), rfl, rfl, q2842, q2843, q2844, q93, q2845, ⟨by decide +kernel, by decide +kernel, by decide +kernel⟩, by decide⟩
theorem kv_X3_204 : JV RX3 204 8 yX3_doPassDays cX3_doPassDays 4 (some .int) 1 := ⟨(RX3, TX3, 17), rfl, rfl, q2846, q2848, qs68, q93, q2849, ⟨by decide +kernel, by decide +kernel, by decide +kernel⟩, by decide⟩
theorem kv_X3_201 : JV RX3 201 8 yX3_doPassDay cX3_doPassDay 4 (some .int) 0 := ⟨(RX3, TX3, 17), rfl, rfl, q2850, q2852, qs69, q93, q2853, ⟨by decide +kernel, by decide +kernel, by decide +kernel⟩, by decide⟩
theorem km_X3_198 : JMn RX3 198 := ⟨q2854, q568, q101, q569⟩
theorem kv_X0_309 : JV RX0 309 8 yX3_day cX3_day 1 (some .int) 0 := ⟨(RX3, TX3, 17), rfl, rfl, q2855, q2856, q2857, q93, q2858, ⟨by decide +kernel, by decide +kernel, by decide +kernel⟩, by decide⟩
theorem kv_X0_312 : JV RX0 312 8 yX3_daysUntilDismissal cX3_daysUntilDismissal 5 (some .int) 1 := ⟨(RX3, TX3, 17), rfl, rfl, q2859, q2860, q2861, q93, q2862, ⟨by decide +kernel, by decide +kernel, by decide +kernel⟩, by decide⟩
theorem kv_X0_316 : JV RX0 316 8 yX3_dailyWages cX3_dailyWages 3 (some .int) 0 := ⟨(RX3, TX3, 17), rfl, rfl, q2863, q2864, q2865, q93, q2866, ⟨by decide +kernel, by decide +kernel, by decide +kernel⟩, by decide⟩
theorem kv_X0_320 : JV RX0 320 8 yX3_meanScore cX3_meanScore 4 (some .double) 0 := ⟨(RX3, TX3, 17), rfl, rfl, q2867, q2868, q2869, q93, q2870, ⟨by decide +kernel, by decide +kernel, by decide +kernel⟩, by decide⟩
theorem kv_X0_323 : JV RX0 323 8 yX3_filledFraction cX3_filledFraction 2 (some .float) 0 := ⟨(RX3, TX3, 17), rfl, rfl, q2871, q2872, q2873, q93, q2874, ⟨by decide +kernel, by decide +kernel, by decide +kernel⟩, by decide⟩
theorem kv_X0_338 : JV RX0 338 8 yX3_isConsistent cX3_isConsistent 1 (some .boolean) 0 := ⟨(RX3, TX3, 17), rfl, rfl, q2875, q2876, q2877, q93, q2878, ⟨by decide +kernel, by decide +kernel, by decide +kernel⟩, by decide⟩
theorem kv_X0_326 : JV RX0 326 8 yX3_writeApplicant cX3_writeApplicant 4 (some .int) 1 := ⟨(RX3, TX3, 17), rfl, rfl, q2879, q2880, q2881, q93, q2882, ⟨by decide +kernel, by decide +kernel, by decide +kernel⟩, by decide⟩
theorem kv_X3_213 : JV RX3 213 8 yX3_says cX3_says 2 none 1 := ⟨(RX3, TX3, 17), rfl, rfl, q2883, q2885, qs70, q93, q2886, ⟨by decide +kernel, by decide +kernel, by decide +kernel⟩, by decide⟩
theorem kv_X3_210 : JV RX3 210 8 yX3_saysNumber cX3_saysNumber 2 none 1 := ⟨(RX3, TX3, 17), rfl, rfl, q2887, q2889, qs71, q93, q2890, ⟨by decide +kernel, by decide +kernel, by decide +kernel⟩, by decide⟩
theorem kv_X3_216 : JV RX3 216 8 yX3_saysIf cX3_saysIf 4 none 3 := ⟨(RX3, TX3, 17), rfl, rfl, q2891, q2893, qs72, q93, q2894, ⟨by decide +kernel, by decide +kernel, by decide +kernel⟩, by decide⟩
theorem kv_X0_330 : JV RX0 330 8 yX3_writePosts cX3_writePosts 3 (some .int) 0 := ⟨(RX3, TX3, 17), rfl, rfl, q2895, q2896, q2897, q93, q2898, ⟨by decide +kernel, by decide +kernel, by decide +kernel⟩, by decide⟩
theorem kv_X0_333 : JV RX0 333 8 yX3_outputCharacter cX3_outputCharacter 2 (some .char) 1 := ⟨(RX3, TX3, 17), rfl, rfl, q2899, q2900, q2901, q93, q2902, ⟨by decide +kernel, by decide +kernel, by decide +kernel⟩, by decide⟩
theorem kv_X0_342 : JV RX0 342 8 yX3_feed cX3_feed 2 (some .int) 1 := ⟨(RX3, TX3, 17), rfl, rfl, q2903, q2904, q2905, q93, q2906, ⟨by decide +kernel, by decide +kernel, by decide +kernel⟩, by decide⟩
theorem kv_X0_346 : JV RX0 346 8 yX3_execute cX3_execute 2 (some .int) 0 := ⟨(RX3, TX3, 17), rfl, rfl, q2907, q2908, q2909, q93, q2910, ⟨by decide +kernel, by decide +kernel, by decide +kernel⟩, by decide⟩
theorem kv_X3_285 : JV RX3 285 8 yX3_readCommand cX3_readCommand 3 none 0 := ⟨(RX3, TX3, 17), rfl, rfl, q2911, q2913, qs73, q93, q2914, ⟨by decide +kernel, by decide +kernel, by decide +kernel⟩, by decide⟩
theorem kv_X3_234 : JV RX3 234 8 yX3_behind cX3_behind 2 (some .int) 1 := ⟨(RX3, TX3, 17), rfl, rfl, q2915, q2917, qs74, q93, q2918, ⟨by decide +kernel, by decide +kernel, by decide +kernel⟩, by decide⟩
theorem kv_X3_252 : JV RX3 252 8 yX3_skip cX3_skip 3 none 1 := ⟨(RX3, TX3, 17), rfl, rfl, q2921, q2923, qs75, q93, q2924, ⟨by decide +kernel, by decide +kernel, by decide +kernel⟩, by decide⟩
theorem kv_X3_226 : JV RX3 226 15 yJ8_length cJ8_length 1 (some .int) 0 := ⟨(RJ8, TJ8, 4), rfl, rfl, q2925, q809, q810, q91, q811, ⟨by decide +kernel, by decide +kernel, by decide +kernel⟩, by decide⟩
theorem kv_X3_237 : JV RX3 237 15 yJ8_charAt cJ8_charAt 2 (some .char) 1 := ⟨(RJ8, TJ8, 4), rfl, rfl, q2926, q2239, q2240, q91, q2241, ⟨by decide +kernel, by decide +kernel, by decide +kernel⟩, by decide⟩
theorem kv_X3_256 : JV RX3 256 8 yX3_readNumber cX3_readNumber 4 (some .int) 1 := ⟨(RX3, TX3, 17), rfl, rfl, q2927, q2929, qs76, q93, q2930, ⟨by decide +kernel, by decide +kernel, by decide +kernel⟩, by decide⟩
theorem kv_X3_241 : JV RX3 241 8 yX3_isDigit cX3_isDigit 1 (some .boolean) 0 := ⟨(RX3, TX3, 17), rfl, rfl, q2931, q2933, qs77, q93, q2934, ⟨by decide +kernel, by decide +kernel, by decide +kernel⟩, by decide⟩
theorem kv_X3_261 : JV RX3 261 8 yX3_readShape cX3_readShape 3 (some .int) 1 := ⟨(RX3, TX3, 17), rfl, rfl, q2936, q2938, qs78, q93, q2939, ⟨by decide +kernel, by decide +kernel, by decide +kernel⟩, by decide⟩
theorem kv_X3_288 : JV RX3 288 8 yX3_does cX3_does 6 none 1 := ⟨(RX3, TX3, 17), rfl, rfl, q2950, q2952, qs79, q93, q2953, ⟨by decide +kernel, by decide +kernel, by decide +kernel⟩, by decide⟩
theorem kv_X0_349 : JV RX0 349 8 yX3_errorPosition cX3_errorPosition 1 (some .int) 0 := ⟨(RX3, TX3, 17), rfl, rfl, q2954, q2955, q2956, q93, q2957, ⟨by decide +kernel, by decide +kernel, by decide +kernel⟩, by decide⟩
theorem kv_X0_352 : JV RX0 352 8 yX3_failedCommand cX3_failedCommand 1 (some .int) 0 := ⟨(RX3, TX3, 17), rfl, rfl, q2958, q2959, q2960, q93, q2961, ⟨by decide +kernel, by decide +kernel, by decide +kernel⟩, by decide⟩
theorem kv_X0_355 : JV RX0 355 8 yX3_undo cX3_undo 1 (some .int) 0 := ⟨(RX3, TX3, 17), rfl, rfl, q2962, q2963, q2964, q93, q2965, ⟨by decide +kernel, by decide +kernel, by decide +kernel⟩, by decide⟩
theorem kv_X0_359 : JV RX0 359 8 yX3_undoCount cX3_undoCount 1 (some .int) 0 := ⟨(RX3, TX3, 17), rfl, rfl, q2966, q2967, q2968, q93, q2969, ⟨by decide +kernel, by decide +kernel, by decide +kernel⟩, by decide⟩
theorem kv_X0_363 : JV RX0 363 8 yX3_save cX3_save 1 (some .int) 0 := ⟨(RX3, TX3, 17), rfl, rfl, q2970, q2971, q2972, q93, q2973, ⟨by decide +kernel, by decide +kernel, by decide +kernel⟩, by decide⟩
theorem kv_X0_366 : JV RX0 366 8 yX3_restore cX3_restore 1 (some .int) 0 := ⟨(RX3, TX3, 17), rfl, rfl, q2974, q2975, q2976, q93, q2977, ⟨by decide +kernel, by decide +kernel, by decide +kernel⟩, by decide⟩
theorem ka_0 : JLA 0 .int (.int 0) := ⟨by decide, rfl, rfl, q500, by decide⟩
theorem ka_1 : JLA 1 .long (.long 0) := ⟨by decide, rfl, rfl, q2978, by decide⟩
theorem ka_2 : JLA 2 .double (.double 0) := ⟨by decide, rfl, rfl, q2979, by decide⟩
theorem ka_3 : JLA 3 .boolean (.int 0) := ⟨by decide, rfl, rfl, q1773, by decide⟩
theorem ka_4 : JLA 4 .byte (.int 0) := ⟨by decide, rfl, rfl, q274, by decide⟩
theorem ka_5 : JLA 5 .char (.int 0) := ⟨by decide, rfl, rfl, q2512, by decide⟩
theorem kas_6_0 : JAs 6 0 := ⟨by decide, by decide, "java/lang/Object", (RX1, TX1, 7), rfl, rfl, Or.inr q3000⟩
theorem kas_6_1 : JAs 6 1 := ⟨by decide, by decide, "java/lang/Object", (RX2, TX2, 6), rfl, rfl, Or.inr q3001⟩
theorem kas_6_2 : JAs 6 2 := ⟨by decide, by decide, "java/lang/Object", (RX5, TX5, 6), rfl, rfl, Or.inr q2998⟩
theorem kas_6_3 : JAs 6 3 := ⟨by decide, by decide, "java/lang/Object", (RX4, TX4, 5), rfl, rfl, Or.inr q3009⟩
theorem kas_6_4 : JAs 6 4 := ⟨by decide, by decide, "java/lang/Object", (RX6, TX6, 2), rfl, rfl, Or.inr q3015⟩
theorem kas_6_5 : JAs 6 5 := ⟨by decide, by decide, "java/lang/Object", (RX7, TX7, 2), rfl, rfl, Or.inr q3017⟩
theorem kas_6_6 : JAs 6 6 := ⟨by decide, by decide, "java/lang/Object", (RX8, TX8, 2), rfl, rfl, Or.inr q3023⟩
theorem kas_6_7 : JAs 6 7 := ⟨by decide, by decide, "java/lang/Object", (RX9, TX9, 7), rfl, rfl, Or.inr q3024⟩
theorem kas_6_8 : JAs 6 8 := ⟨by decide, by decide, "java/lang/Object", (RX3, TX3, 17), rfl, rfl, Or.inr q3006⟩
theorem kas_6_9 : JAs 6 9 := ⟨by decide, by decide, "java/lang/Object", (RJ1, TJ1, 8), rfl, rfl, Or.inr q3002⟩
theorem kas_6_10 : JAs 6 10 := ⟨by decide, by decide, "java/lang/Object", (RJ24, TJ24, 4), rfl, rfl, Or.inr q2997⟩
theorem kas_6_11 : JAs 6 11 := ⟨by decide, by decide, "java/lang/Object", (RJ4, TJ4, 3), rfl, rfl, Or.inr q3003⟩
theorem kas_6_12 : JAs 6 12 := ⟨by decide, by decide, "java/lang/Object", (RJ10, TJ10, 4), rfl, rfl, Or.inr q3007⟩
theorem kas_6_13 : JAs 6 13 := ⟨by decide, by decide, "java/lang/Object", (RJ5, TJ5, 3), rfl, rfl, Or.inr q3004⟩
theorem kas_6_14 : JAs 6 14 := ⟨by decide, by decide, "java/lang/Object", (RJ7, TJ7, 4), rfl, rfl, Or.inr q3005⟩
theorem kas_6_15 : JAs 6 15 := ⟨by decide, by decide, "java/lang/Object", (RJ8, TJ8, 4), rfl, rfl, Or.inr q2999⟩
theorem kas_6_16 : JAs 6 16 := ⟨by decide, by decide, "java/lang/Object", (RJ19, TJ19, 1), rfl, rfl, Or.inr q3010⟩
theorem kas_7_2 : JAs 7 2 := ⟨by decide, by decide, "CloudInterviews$Applicant", (RX5, TX5, 6), rfl, rfl, Or.inl rfl⟩
theorem kas_8_10 : JAs 8 10 := ⟨by decide, by decide, "java/util/HashMap$Node", (RJ24, TJ24, 4), rfl, rfl, Or.inl rfl⟩
theorem kas_9_15 : JAs 9 15 := ⟨by decide, by decide, "java/lang/String", (RJ8, TJ8, 4), rfl, rfl, Or.inl rfl⟩
theorem kth_arg : JTh RX1 1 3 "java/lang/IllegalArgumentException" ["java/lang/RuntimeException", "java/lang/Exception"] := JTh.of [95, 382, 391, 400, 403, 405, 383, 384, 134, 135, 385, 390, 401, 418, 372, 419, 374, 420, 376, 386, 388, 378, 1506, 1507, 1508, 410, 363, 410, 411, 412, 413, 365, 413, 414, 415, 383, 367, 1505, 744, 745, 746, 396, 747, 748, 749, 750, 381, 380, 751] q1504 (lw_w 110 (by decide +kernel) (by decide +kernel)) (by decide +kernel) (by decide +kernel) (by decide +kernel) (by decide +kernel) (by decide +kernel) rfl
theorem kth_idx : JTh RX1 13 15 "java/lang/IndexOutOfBoundsException" ["java/lang/RuntimeException", "java/lang/Exception"] := JTh.of [95, 382, 391, 400, 403, 405, 383, 384, 134, 135, 385, 390, 401, 418, 372, 419, 374, 420, 376, 386, 388, 378, 1588, 1589, 1590, 410, 363, 410, 411, 412, 413, 365, 413, 414, 415, 383, 367, 1587, 1579, 1580, 1581, 398, 1582, 1583, 1584, 1585, 381, 380, 1586] q1578 (lw_w 122 (by decide +kernel) (by decide +kernel)) (by decide +kernel) (by decide +kernel) (by decide +kernel) (by decide +kernel) (by decide +kernel) rfl
theorem kth_sta : JTh RX1 16 18 "java/lang/IllegalStateException" ["java/lang/RuntimeException", "java/lang/Exception"] := JTh.of [95, 382, 391, 400, 403, 405, 383, 384, 134, 135, 385, 390, 401, 418, 372, 419, 374, 420, 376, 386, 388, 378, 1523, 1524, 1525, 410, 363, 410, 411, 412, 413, 365, 413, 414, 415, 383, 367, 1522, 1514, 1515, 1516, 397, 1517, 1518, 1519, 1520, 381, 380, 1521] q1513 (lw_w 121 (by decide +kernel) (by decide +kernel)) (by decide +kernel) (by decide +kernel) (by decide +kernel) (by decide +kernel) (by decide +kernel) rfl
theorem kth_ele : JTh RX1 19 21 "java/util/NoSuchElementException" ["java/lang/RuntimeException", "java/lang/Exception"] := JTh.of [95, 382, 391, 400, 403, 405, 383, 384, 134, 135, 385, 390, 401, 418, 372, 419, 374, 420, 376, 386, 388, 378, 407, 408, 409, 410, 363, 410, 411, 412, 413, 365, 413, 414, 415, 383, 367, 1545, 361, 362, 369, 370, 371, 373, 375, 377, 381, 380, 379] q1544 (lw_w 98 (by decide +kernel) (by decide +kernel)) (by decide +kernel) (by decide +kernel) (by decide +kernel) (by decide +kernel) (by decide +kernel) rfl
theorem kth_ari : JTh RX1 22 24 "java/lang/ArithmeticException" ["java/lang/RuntimeException", "java/lang/Exception"] := JTh.of [95, 382, 391, 400, 403, 405, 383, 384, 134, 135, 385, 390, 401, 418, 372, 419, 374, 420, 376, 386, 388, 378, 2205, 2206, 2207, 410, 363, 410, 411, 412, 413, 365, 413, 414, 415, 383, 367, 2204, 2183, 2194, 2195, 394, 2189, 2190, 2192, 2188, 381, 380, 2187] q2203 (lw_w 125 (by decide +kernel) (by decide +kernel)) (by decide +kernel) (by decide +kernel) (by decide +kernel) (by decide +kernel) (by decide +kernel) rfl
theorem kth_sup : JTh RX1 25 27 "java/lang/UnsupportedOperationException" ["java/lang/RuntimeException", "java/lang/Exception"] := JTh.of [95, 382, 391, 400, 403, 405, 383, 384, 134, 135, 385, 390, 401, 418, 372, 419, 374, 420, 376, 386, 388, 378, 1618, 1619, 1620, 410, 363, 410, 411, 412, 413, 365, 413, 414, 415, 383, 367, 1617, 1609, 1610, 1611, 399, 1612, 1613, 1614, 1615, 381, 380, 1616] q1608 (lw_w 123 (by decide +kernel) (by decide +kernel)) (by decide +kernel) (by decide +kernel) (by decide +kernel) (by decide +kernel) (by decide +kernel) rfl
