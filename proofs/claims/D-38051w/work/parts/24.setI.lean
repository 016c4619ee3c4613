/-! contracts: setters of instruments -/
set_option maxRecDepth 100000
theorem kb_m64 : (Int8.ofInt (-64)).toInt32 = (-64) := by decide
theorem ks_128 : (Int16.ofInt 128).toInt32 = 128 := by decide
theorem ks_255 : (Int16.ofInt 255).toInt32 = 255 := by decide
theorem ks_400 : (Int16.ofInt 400).toInt32 = 400 := by decide
theorem nsX1_requireFrom : yX1_requireFrom.cls ≠ "java/lang/invoke/MethodHandle" ∧ yX1_requireFrom.cls ≠ "java/lang/invoke/VarHandle" ∧ (parseMethodDescriptor yX1_requireFrom.desc).map (fun d => d.parameters.length) = some 3 := by decide +kernel
theorem nvX1_instrument : yX1_instrument.cls = RX1 ∧ yX1_instrument.cls ≠ "java/lang/invoke/MethodHandle" ∧ yX1_instrument.cls ≠ "java/lang/invoke/VarHandle" ∧ (parseMethodDescriptor yX1_instrument.desc).map (fun d => d.parameters.length) = some 1 := by decide +kernel
set_option maxHeartbeats 4000000 in
set_option maxRecDepth 100000 in
theorem m_X1_setWaves (l : Launch) (hst : l.stackTraces = false) (g : gG) (ad : Nat → Nat) (e0 : Nat) (mi : Nat → Int32) (lo su : Int64) (ig : Nat → Nat → Int32) (i a b de mx : Int32) : gXi l yX1_setWaves cX1_setWaves 8 .int 8 131 8 48 g [((ad 0), cM ad e0 mi lo su), ((ad 2), cA (ad 3) al4), ((ad 3), .inl (g.2.2.1, 10, .inr (.inr (.inr (.inr (iq ad)))))), ((ad 4), cI (ig 0)), ((ad 5), cI (ig 1)), ((ad 6), cI (ig 2)), ((ad 7), cI (ig 3))] [.ref (ad 0), .int i, .int a, .int b, .int de, .int mx] (fun (r : Int32) (_ : Unit) => (k_waves i a b de mx) = 0 ∧ r = ig i.toNatClampNeg 3) (fun _ : Unit => [((ad 0), cM ad e0 mi lo su), ((ad 2), cA (ad 3) al4), ((ad 3), .inl (g.2.2.1, 10, .inr (.inr (.inr (.inr (iq ad)))))), ((ad 4), cI ((va_up ig i.toNatClampNeg (s_wav (ig i.toNatClampNeg) a b de mx)) 0)), ((ad 5), cI ((va_up ig i.toNatClampNeg (s_wav (ig i.toNatClampNeg) a b de mx)) 1)), ((ad 6), cI ((va_up ig i.toNatClampNeg (s_wav (ig i.toNatClampNeg) a b de mx)) 2)), ((ad 7), cI ((va_up ig i.toNatClampNeg (s_wav (ig i.toNatClampNeg) a b de mx)) 3))]) (fun E : String => (E = eIO ∧ (k_waves i a b de mx) = 1) ∨ (E = eIA ∧ (k_waves i a b de mx) = 2)) := by
  intro sz
  refine g_xent (by decide) hst [(0, .ref (ad 0)), (1, .int i), (2, .int a), (3, .int b), (4, .int de), (5, .int mx)] (Nat.le_of_ble_eq_true rfl) rfl ?_
  intro p e s m below meth c B hr hnm hsz hT
  have B : gB p l s m ([.ref (ad 0), .int i, .int a, .int b, .int de, .int mx] : List Value).toArray meth c RX1 cX1_setWaves 8 g (va_A [((ad 0), cM ad e0 mi lo su), ((ad 2), cA (ad 3) al4), ((ad 3), .inl (g.2.2.1, 10, .inr (.inr (.inr (.inr (iq ad)))))), ((ad 4), cI (ig 0)), ((ad 5), cI (ig 1)), ((ad 6), cI (ig 2)), ((ad 7), cI (ig 3))] sz) := B
  have hA9 : (va_A [((ad 0), cM ad e0 mi lo su), ((ad 2), cA (ad 3) al4), ((ad 3), .inl (g.2.2.1, 10, .inr (.inr (.inr (.inr (iq ad)))))), ((ad 4), cI (ig 0)), ((ad 5), cI (ig 1)), ((ad 6), cI (ig 2)), ((ad 7), cI (ig 3))] sz) = va_A [((ad 0), cM ad e0 mi lo su), ((ad 2), cA (ad 3) al4), ((ad 3), .inl (g.2.2.1, 10, .inr (.inr (.inr (.inr (iq ad)))))), ((ad 4), cI (ig 0)), ((ad 5), cI (ig 1)), ((ad 6), cI (ig 2)), ((ad 7), cI (ig 3))] s.heap.size := by rw [hsz]
  subst hsz
  by_cases b_1 : ix_k i 4 = 0
  · skip
    obtain ⟨q_2, hq_2, e_3⟩ := ix_nat (N := 4) b_1 (by decide) (by decide)
    rcases (show q_2 = 0 ∨ q_2 = 1 ∨ q_2 = 2 ∨ q_2 = 3 by omega) with rfl | rfl | rfl | rfl
    · skip
      replace e_3 : i = 0 := e_3
      have te_3 : i.toNatClampNeg = 0 := by rw [e_3]; decide
      refine g_lvq (lv' := [(0, .ref (ad 0)), (1, .int 0), (2, .int a), (3, .int b), (4, .int de), (5, .int mx)]) (by rw [e_3]) ?_
      refine g_aload_n B 0 0 dX1_setWaves_0 rfl rfl ?_
      refine g_iload_n B 1 1 dX1_setWaves_1 rfl rfl ?_
      refine g_cuV_q (C := RX1) (T := TX1) (N := 17) (As := [.int 0]) B (m_X1_instrument l hst g ad e0 mi lo su 0 0 (by decide) (by decide) (ig 0)) 0 0 rfl rfl [0, 1, 2, 3] [] (lw_V q764 q766 qs14 q26 q767) nvX1_instrument rfl rfl rfl rfl (Nat.le_of_ble_eq_true rfl) dX1_setWaves_2 ⟨Nat.le_of_ble_eq_true rfl, Nat.le_of_ble_eq_true rfl⟩ ⟨Nat.le_of_ble_eq_true rfl, Nat.le_of_ble_eq_true rfl⟩ (fun r_4 ur_4 hr_4 => ?_)
      obtain rfl : some (ad 4) = r_4 := (hr_4).symm
      refine g_eqs (st' := [.ref (ad 4)]) rfl ?_
      refine g_astore B [(6, .ref (ad 4)), (0, .ref (ad 0)), (1, .int 0), (2, .int a), (3, .int b), (4, .int de), (5, .int mx)] dX1_setWaves_5 (Nat.le_of_ble_eq_true rfl) rfl ?_
      refine g_iload_n B 2 3 dX1_setWaves_7 rfl rfl ?_
      refine g_iconst (v := 4) B dX1_setWaves_8 kc_4 ?_
      refine g_xuS_v (As := [.int a, .int 4]) B (m_X1_requireIndex l hst g a 4) [] [] (lw_S q669 q670 q26 q671) nsX1_requireIndex rfl rfl rfl rfl (Nat.le_of_ble_eq_true rfl) dX1_setWaves_9 ⟨Nat.le_of_ble_eq_true rfl, Nat.le_of_ble_eq_true rfl⟩ ⟨Nat.le_of_ble_eq_true rfl, Nat.le_of_ble_eq_true rfl⟩ (fun E hE => ?_) (fun ur_5 hr_5 => ?_)
      · skip
        have hK9 : ¬ (ix_k a 4) = 0 := by rw [hE.2]; decide
        exact g_xout B hT hA9 (Nat.le_of_ble_eq_true rfl) (Nat.le_of_ble_eq_true rfl) (Or.inl ⟨hE.1, (by first | exact hE.2 | (simp only [k_waves, if_pos b_1, te_3, if_neg hK9]; done) | (simp only [k_waves, if_pos b_1, te_3, if_neg hK9]; rfl) | rfl)⟩) [0, 1, 2, 3, 4, 5, 6] rfl rfl
      have kr_5 : (ix_k a 4) = 0 := hr_5
      refine g_iload_n B 3 4 dX1_setWaves_12 rfl rfl ?_
      refine g_iconst (v := 4) B dX1_setWaves_13 kc_4 ?_
      refine g_xuS_v (As := [.int b, .int 4]) B (m_X1_requireIndex l hst g b 4) [] [] (lw_S q669 q670 q26 q671) nsX1_requireIndex rfl rfl rfl rfl (Nat.le_of_ble_eq_true rfl) dX1_setWaves_14 ⟨Nat.le_of_ble_eq_true rfl, Nat.le_of_ble_eq_true rfl⟩ ⟨Nat.le_of_ble_eq_true rfl, Nat.le_of_ble_eq_true rfl⟩ (fun E hE => ?_) (fun ur_6 hr_6 => ?_)
      · skip
        have hK9 : ¬ (ix_k b 4) = 0 := by rw [hE.2]; decide
        exact g_xout B hT hA9 (Nat.le_of_ble_eq_true rfl) (Nat.le_of_ble_eq_true rfl) (Or.inl ⟨hE.1, (by first | exact hE.2 | (simp only [k_waves, if_pos b_1, te_3, if_pos kr_5, if_neg hK9]; done) | (simp only [k_waves, if_pos b_1, te_3, if_pos kr_5, if_neg hK9]; rfl) | rfl)⟩) [0, 1, 2, 3, 4, 5, 6] rfl rfl
      have kr_6 : (ix_k b 4) = 0 := hr_6
      refine g_bipush (v := (-64)) B dX1_setWaves_17 kb_m64 ?_
      refine g_bipush (v := 64) B dX1_setWaves_19 kb_64 ?_
      refine g_iload B 5 dX1_setWaves_21 rfl ?_
      refine g_xuS_v (As := [.int (-64), .int 64, .int de]) B (m_X1_requireFrom l hst g (-64) 64 de) [] [] (lw_S q580 q581 q26 q582) nsX1_requireFrom rfl rfl rfl rfl (Nat.le_of_ble_eq_true rfl) dX1_setWaves_23 ⟨Nat.le_of_ble_eq_true rfl, Nat.le_of_ble_eq_true rfl⟩ ⟨Nat.le_of_ble_eq_true rfl, Nat.le_of_ble_eq_true rfl⟩ (fun E hE => ?_) (fun ur_7 hr_7 => ?_)
      · skip
        have hK9 : ¬ (fr_k (-64) 64 de) = 0 := by rw [hE.2]; decide
        exact g_xout B hT hA9 (Nat.le_of_ble_eq_true rfl) (Nat.le_of_ble_eq_true rfl) (Or.inr ⟨hE.1, (by first | exact hE.2 | (simp only [k_waves, if_pos b_1, te_3, if_pos kr_5, if_pos kr_6, if_neg hK9]; done) | (simp only [k_waves, if_pos b_1, te_3, if_pos kr_5, if_pos kr_6, if_neg hK9]; rfl) | rfl)⟩) [0, 1, 2, 3, 4, 5, 6] rfl rfl
      have kr_7 : (fr_k (-64) 64 de) = 0 := hr_7
      refine g_iconst (v := 0) B dX1_setWaves_26 kc_0 ?_
      refine g_bipush (v := 100) B dX1_setWaves_27 kb_100 ?_
      refine g_iload B 6 dX1_setWaves_29 rfl ?_
      refine g_xuS_v (As := [.int 0, .int 100, .int mx]) B (m_X1_requireFrom l hst g 0 100 mx) [] [] (lw_S q580 q581 q26 q582) nsX1_requireFrom rfl rfl rfl rfl (Nat.le_of_ble_eq_true rfl) dX1_setWaves_31 ⟨Nat.le_of_ble_eq_true rfl, Nat.le_of_ble_eq_true rfl⟩ ⟨Nat.le_of_ble_eq_true rfl, Nat.le_of_ble_eq_true rfl⟩ (fun E hE => ?_) (fun ur_8 hr_8 => ?_)
      · skip
        have hK9 : ¬ (fr_k 0 100 mx) = 0 := by rw [hE.2]; decide
        exact g_xout B hT hA9 (Nat.le_of_ble_eq_true rfl) (Nat.le_of_ble_eq_true rfl) (Or.inr ⟨hE.1, (by first | exact hE.2 | (simp only [k_waves, if_pos b_1, te_3, if_pos kr_5, if_pos kr_6, if_pos kr_7, if_neg hK9]; done) | (simp only [k_waves, if_pos b_1, te_3, if_pos kr_5, if_pos kr_6, if_pos kr_7, if_neg hK9]; rfl) | rfl)⟩) [0, 1, 2, 3, 4, 5, 6] rfl rfl
      have kr_8 : (fr_k 0 100 mx) = 0 := hr_8
      refine g_aload B 0 dX1_setWaves_34 rfl ?_
      refine g_getN (C := RX3) (T := TX3) (N := 12) B 2 3 3 (.int ((ig 0) 3)) in_X3 rfl q151 rfl (Nat.le_of_ble_eq_true rfl) (fun _ h9 => h9) rfl dX1_setWaves_36 ?_
      refine g_istore B [(7, .int ((ig 0) 3)), (6, .ref (ad 4)), (0, .ref (ad 0)), (1, .int 0), (2, .int a), (3, .int b), (4, .int de), (5, .int mx)] dX1_setWaves_39 (Nat.le_of_ble_eq_true rfl) rfl ?_
      refine g_aload B 1 dX1_setWaves_41 rfl ?_
      refine g_iload_n B 2 4 dX1_setWaves_43 rfl rfl ?_
      refine g_putN (C := RX3) (T := TX3) (N := 12) (ty := .int) (v := .int a) B 2 3 0 [((ad 0), cM ad e0 mi lo su), ((ad 2), cA (ad 3) al4), ((ad 3), .inl (g.2.2.1, 10, .inr (.inr (.inr (.inr (iq ad)))))), ((ad 4), cI (upd (ig 0) 0 a)), ((ad 5), cI (ig 1)), ((ad 6), cI (ig 2)), ((ad 7), cI (ig 3))] in_X3 tyX3 tyX3_ok nmX3 rfl q145 rfl (Nat.le_of_ble_eq_true rfl) (fun _ h9 => h9) rfl rfl rfl rfl (Nat.le_of_ble_eq_true rfl) rfl dX1_setWaves_44 ?_
      refine g_aload B 1 dX1_setWaves_47 rfl ?_
      refine g_iload_n B 3 5 dX1_setWaves_49 rfl rfl ?_
      refine g_putN (C := RX3) (T := TX3) (N := 12) (ty := .int) (v := .int b) B 2 3 1 [((ad 0), cM ad e0 mi lo su), ((ad 2), cA (ad 3) al4), ((ad 3), .inl (g.2.2.1, 10, .inr (.inr (.inr (.inr (iq ad)))))), ((ad 4), cI (upd (upd (ig 0) 0 a) 1 b)), ((ad 5), cI (ig 1)), ((ad 6), cI (ig 2)), ((ad 7), cI (ig 3))] in_X3 tyX3 tyX3_ok nmX3 rfl q147 rfl (Nat.le_of_ble_eq_true rfl) (fun _ h9 => h9) rfl rfl rfl rfl (Nat.le_of_ble_eq_true rfl) rfl dX1_setWaves_50 ?_
      refine g_aload B 1 dX1_setWaves_53 rfl ?_
      refine g_iload B 6 dX1_setWaves_55 rfl ?_
      refine g_putN (C := RX3) (T := TX3) (N := 12) (ty := .int) (v := .int de) B 2 3 2 [((ad 0), cM ad e0 mi lo su), ((ad 2), cA (ad 3) al4), ((ad 3), .inl (g.2.2.1, 10, .inr (.inr (.inr (.inr (iq ad)))))), ((ad 4), cI (upd (upd (upd (ig 0) 0 a) 1 b) 2 de)), ((ad 5), cI (ig 1)), ((ad 6), cI (ig 2)), ((ad 7), cI (ig 3))] in_X3 tyX3 tyX3_ok nmX3 rfl q149 rfl (Nat.le_of_ble_eq_true rfl) (fun _ h9 => h9) rfl rfl rfl rfl (Nat.le_of_ble_eq_true rfl) rfl dX1_setWaves_57 ?_
      refine g_aload B 1 dX1_setWaves_60 rfl ?_
      refine g_iload B 7 dX1_setWaves_62 rfl ?_
      refine g_putN (C := RX3) (T := TX3) (N := 12) (ty := .int) (v := .int mx) B 2 3 3 [((ad 0), cM ad e0 mi lo su), ((ad 2), cA (ad 3) al4), ((ad 3), .inl (g.2.2.1, 10, .inr (.inr (.inr (.inr (iq ad)))))), ((ad 4), cI (upd (upd (upd (upd (ig 0) 0 a) 1 b) 2 de) 3 mx)), ((ad 5), cI (ig 1)), ((ad 6), cI (ig 2)), ((ad 7), cI (ig 3))] in_X3 tyX3 tyX3_ok nmX3 rfl q151 rfl (Nat.le_of_ble_eq_true rfl) (fun _ h9 => h9) rfl rfl rfl rfl (Nat.le_of_ble_eq_true rfl) rfl dX1_setWaves_64 ?_
      refine g_iload B 0 dX1_setWaves_67 rfl ?_
      exact g_xiret B hr dX1_setWaves_69 (Nat.le_of_ble_eq_true rfl) (Nat.le_of_ble_eq_true rfl) () ⟨(by first | (simp only [k_waves, if_pos b_1, te_3, if_pos kr_5, if_pos kr_6, if_pos kr_7, if_pos kr_8]; done) | (simp only [k_waves, if_pos b_1, te_3, if_pos kr_5, if_pos kr_6, if_pos kr_7, if_pos kr_8]; rfl) | rfl), (by first | (simp only [if_pos b_1, te_3, if_pos kr_5, if_pos kr_6, if_pos kr_7, if_pos kr_8]; done) | (simp only [if_pos b_1, te_3, if_pos kr_5, if_pos kr_6, if_pos kr_7, if_pos kr_8]; rfl) | rfl)⟩ [0, 1, 2, 3, 4, 5, 6] rfl (by first | (simp only [if_pos b_1, te_3, if_pos kr_5, if_pos kr_6, if_pos kr_7, if_pos kr_8]; rfl) | rfl | (rw [e_3]; rfl))
    · skip
      replace e_3 : i = 1 := e_3
      have te_3 : i.toNatClampNeg = 1 := by rw [e_3]; decide
      refine g_lvq (lv' := [(0, .ref (ad 0)), (1, .int 1), (2, .int a), (3, .int b), (4, .int de), (5, .int mx)]) (by rw [e_3]) ?_
      refine g_aload_n B 0 0 dX1_setWaves_0 rfl rfl ?_
      refine g_iload_n B 1 1 dX1_setWaves_1 rfl rfl ?_
      refine g_cuV_q (C := RX1) (T := TX1) (N := 17) (As := [.int 1]) B (m_X1_instrument l hst g ad e0 mi lo su 1 1 (by decide) (by decide) (ig 1)) 0 0 rfl rfl [0, 1, 2, 4] [] (lw_V q764 q766 qs14 q26 q767) nvX1_instrument rfl rfl rfl rfl (Nat.le_of_ble_eq_true rfl) dX1_setWaves_2 ⟨Nat.le_of_ble_eq_true rfl, Nat.le_of_ble_eq_true rfl⟩ ⟨Nat.le_of_ble_eq_true rfl, Nat.le_of_ble_eq_true rfl⟩ (fun r_9 ur_9 hr_9 => ?_)
      obtain rfl : some (ad 5) = r_9 := (hr_9).symm
      refine g_eqs (st' := [.ref (ad 5)]) rfl ?_
      refine g_astore B [(6, .ref (ad 5)), (0, .ref (ad 0)), (1, .int 1), (2, .int a), (3, .int b), (4, .int de), (5, .int mx)] dX1_setWaves_5 (Nat.le_of_ble_eq_true rfl) rfl ?_
      refine g_iload_n B 2 3 dX1_setWaves_7 rfl rfl ?_
      refine g_iconst (v := 4) B dX1_setWaves_8 kc_4 ?_
      refine g_xuS_v (As := [.int a, .int 4]) B (m_X1_requireIndex l hst g a 4) [] [] (lw_S q669 q670 q26 q671) nsX1_requireIndex rfl rfl rfl rfl (Nat.le_of_ble_eq_true rfl) dX1_setWaves_9 ⟨Nat.le_of_ble_eq_true rfl, Nat.le_of_ble_eq_true rfl⟩ ⟨Nat.le_of_ble_eq_true rfl, Nat.le_of_ble_eq_true rfl⟩ (fun E hE => ?_) (fun ur_10 hr_10 => ?_)
      · skip
        have hK9 : ¬ (ix_k a 4) = 0 := by rw [hE.2]; decide
        exact g_xout B hT hA9 (Nat.le_of_ble_eq_true rfl) (Nat.le_of_ble_eq_true rfl) (Or.inl ⟨hE.1, (by first | exact hE.2 | (simp only [k_waves, if_pos b_1, te_3, if_neg hK9]; done) | (simp only [k_waves, if_pos b_1, te_3, if_neg hK9]; rfl) | rfl)⟩) [0, 1, 2, 3, 4, 5, 6] rfl rfl
      have kr_10 : (ix_k a 4) = 0 := hr_10
      refine g_iload_n B 3 4 dX1_setWaves_12 rfl rfl ?_
      refine g_iconst (v := 4) B dX1_setWaves_13 kc_4 ?_
      refine g_xuS_v (As := [.int b, .int 4]) B (m_X1_requireIndex l hst g b 4) [] [] (lw_S q669 q670 q26 q671) nsX1_requireIndex rfl rfl rfl rfl (Nat.le_of_ble_eq_true rfl) dX1_setWaves_14 ⟨Nat.le_of_ble_eq_true rfl, Nat.le_of_ble_eq_true rfl⟩ ⟨Nat.le_of_ble_eq_true rfl, Nat.le_of_ble_eq_true rfl⟩ (fun E hE => ?_) (fun ur_11 hr_11 => ?_)
      · skip
        have hK9 : ¬ (ix_k b 4) = 0 := by rw [hE.2]; decide
        exact g_xout B hT hA9 (Nat.le_of_ble_eq_true rfl) (Nat.le_of_ble_eq_true rfl) (Or.inl ⟨hE.1, (by first | exact hE.2 | (simp only [k_waves, if_pos b_1, te_3, if_pos kr_10, if_neg hK9]; done) | (simp only [k_waves, if_pos b_1, te_3, if_pos kr_10, if_neg hK9]; rfl) | rfl)⟩) [0, 1, 2, 3, 4, 5, 6] rfl rfl
      have kr_11 : (ix_k b 4) = 0 := hr_11
      refine g_bipush (v := (-64)) B dX1_setWaves_17 kb_m64 ?_
      refine g_bipush (v := 64) B dX1_setWaves_19 kb_64 ?_
      refine g_iload B 5 dX1_setWaves_21 rfl ?_
      refine g_xuS_v (As := [.int (-64), .int 64, .int de]) B (m_X1_requireFrom l hst g (-64) 64 de) [] [] (lw_S q580 q581 q26 q582) nsX1_requireFrom rfl rfl rfl rfl (Nat.le_of_ble_eq_true rfl) dX1_setWaves_23 ⟨Nat.le_of_ble_eq_true rfl, Nat.le_of_ble_eq_true rfl⟩ ⟨Nat.le_of_ble_eq_true rfl, Nat.le_of_ble_eq_true rfl⟩ (fun E hE => ?_) (fun ur_12 hr_12 => ?_)
      · skip
        have hK9 : ¬ (fr_k (-64) 64 de) = 0 := by rw [hE.2]; decide
        exact g_xout B hT hA9 (Nat.le_of_ble_eq_true rfl) (Nat.le_of_ble_eq_true rfl) (Or.inr ⟨hE.1, (by first | exact hE.2 | (simp only [k_waves, if_pos b_1, te_3, if_pos kr_10, if_pos kr_11, if_neg hK9]; done) | (simp only [k_waves, if_pos b_1, te_3, if_pos kr_10, if_pos kr_11, if_neg hK9]; rfl) | rfl)⟩) [0, 1, 2, 3, 4, 5, 6] rfl rfl
      have kr_12 : (fr_k (-64) 64 de) = 0 := hr_12
      refine g_iconst (v := 0) B dX1_setWaves_26 kc_0 ?_
      refine g_bipush (v := 100) B dX1_setWaves_27 kb_100 ?_
      refine g_iload B 6 dX1_setWaves_29 rfl ?_
      refine g_xuS_v (As := [.int 0, .int 100, .int mx]) B (m_X1_requireFrom l hst g 0 100 mx) [] [] (lw_S q580 q581 q26 q582) nsX1_requireFrom rfl rfl rfl rfl (Nat.le_of_ble_eq_true rfl) dX1_setWaves_31 ⟨Nat.le_of_ble_eq_true rfl, Nat.le_of_ble_eq_true rfl⟩ ⟨Nat.le_of_ble_eq_true rfl, Nat.le_of_ble_eq_true rfl⟩ (fun E hE => ?_) (fun ur_13 hr_13 => ?_)
      · skip
        have hK9 : ¬ (fr_k 0 100 mx) = 0 := by rw [hE.2]; decide
        exact g_xout B hT hA9 (Nat.le_of_ble_eq_true rfl) (Nat.le_of_ble_eq_true rfl) (Or.inr ⟨hE.1, (by first | exact hE.2 | (simp only [k_waves, if_pos b_1, te_3, if_pos kr_10, if_pos kr_11, if_pos kr_12, if_neg hK9]; done) | (simp only [k_waves, if_pos b_1, te_3, if_pos kr_10, if_pos kr_11, if_pos kr_12, if_neg hK9]; rfl) | rfl)⟩) [0, 1, 2, 3, 4, 5, 6] rfl rfl
      have kr_13 : (fr_k 0 100 mx) = 0 := hr_13
      refine g_aload B 0 dX1_setWaves_34 rfl ?_
      refine g_getN (C := RX3) (T := TX3) (N := 12) B 2 4 3 (.int ((ig 1) 3)) in_X3 rfl q151 rfl (Nat.le_of_ble_eq_true rfl) (fun _ h9 => h9) rfl dX1_setWaves_36 ?_
      refine g_istore B [(7, .int ((ig 1) 3)), (6, .ref (ad 5)), (0, .ref (ad 0)), (1, .int 1), (2, .int a), (3, .int b), (4, .int de), (5, .int mx)] dX1_setWaves_39 (Nat.le_of_ble_eq_true rfl) rfl ?_
      refine g_aload B 1 dX1_setWaves_41 rfl ?_
      refine g_iload_n B 2 4 dX1_setWaves_43 rfl rfl ?_
      refine g_putN (C := RX3) (T := TX3) (N := 12) (ty := .int) (v := .int a) B 2 4 0 [((ad 0), cM ad e0 mi lo su), ((ad 2), cA (ad 3) al4), ((ad 3), .inl (g.2.2.1, 10, .inr (.inr (.inr (.inr (iq ad)))))), ((ad 4), cI (ig 0)), ((ad 5), cI (upd (ig 1) 0 a)), ((ad 6), cI (ig 2)), ((ad 7), cI (ig 3))] in_X3 tyX3 tyX3_ok nmX3 rfl q145 rfl (Nat.le_of_ble_eq_true rfl) (fun _ h9 => h9) rfl rfl rfl rfl (Nat.le_of_ble_eq_true rfl) rfl dX1_setWaves_44 ?_
      refine g_aload B 1 dX1_setWaves_47 rfl ?_
      refine g_iload_n B 3 5 dX1_setWaves_49 rfl rfl ?_
      refine g_putN (C := RX3) (T := TX3) (N := 12) (ty := .int) (v := .int b) B 2 4 1 [((ad 0), cM ad e0 mi lo su), ((ad 2), cA (ad 3) al4), ((ad 3), .inl (g.2.2.1, 10, .inr (.inr (.inr (.inr (iq ad)))))), ((ad 4), cI (ig 0)), ((ad 5), cI (upd (upd (ig 1) 0 a) 1 b)), ((ad 6), cI (ig 2)), ((ad 7), cI (ig 3))] in_X3 tyX3 tyX3_ok nmX3 rfl q147 rfl (Nat.le_of_ble_eq_true rfl) (fun _ h9 => h9) rfl rfl rfl rfl (Nat.le_of_ble_eq_true rfl) rfl dX1_setWaves_50 ?_
      refine g_aload B 1 dX1_setWaves_53 rfl ?_
      refine g_iload B 6 dX1_setWaves_55 rfl ?_
      refine g_putN (C := RX3) (T := TX3) (N := 12) (ty := .int) (v := .int de) B 2 4 2 [((ad 0), cM ad e0 mi lo su), ((ad 2), cA (ad 3) al4), ((ad 3), .inl (g.2.2.1, 10, .inr (.inr (.inr (.inr (iq ad)))))), ((ad 4), cI (ig 0)), ((ad 5), cI (upd (upd (upd (ig 1) 0 a) 1 b) 2 de)), ((ad 6), cI (ig 2)), ((ad 7), cI (ig 3))] in_X3 tyX3 tyX3_ok nmX3 rfl q149 rfl (Nat.le_of_ble_eq_true rfl) (fun _ h9 => h9) rfl rfl rfl rfl (Nat.le_of_ble_eq_true rfl) rfl dX1_setWaves_57 ?_
      refine g_aload B 1 dX1_setWaves_60 rfl ?_
      refine g_iload B 7 dX1_setWaves_62 rfl ?_
      refine g_putN (C := RX3) (T := TX3) (N := 12) (ty := .int) (v := .int mx) B 2 4 3 [((ad 0), cM ad e0 mi lo su), ((ad 2), cA (ad 3) al4), ((ad 3), .inl (g.2.2.1, 10, .inr (.inr (.inr (.inr (iq ad)))))), ((ad 4), cI (ig 0)), ((ad 5), cI (upd (upd (upd (upd (ig 1) 0 a) 1 b) 2 de) 3 mx)), ((ad 6), cI (ig 2)), ((ad 7), cI (ig 3))] in_X3 tyX3 tyX3_ok nmX3 rfl q151 rfl (Nat.le_of_ble_eq_true rfl) (fun _ h9 => h9) rfl rfl rfl rfl (Nat.le_of_ble_eq_true rfl) rfl dX1_setWaves_64 ?_
      refine g_iload B 0 dX1_setWaves_67 rfl ?_
      exact g_xiret B hr dX1_setWaves_69 (Nat.le_of_ble_eq_true rfl) (Nat.le_of_ble_eq_true rfl) () ⟨(by first | (simp only [k_waves, if_pos b_1, te_3, if_pos kr_10, if_pos kr_11, if_pos kr_12, if_pos kr_13]; done) | (simp only [k_waves, if_pos b_1, te_3, if_pos kr_10, if_pos kr_11, if_pos kr_12, if_pos kr_13]; rfl) | rfl), (by first | (simp only [if_pos b_1, te_3, if_pos kr_10, if_pos kr_11, if_pos kr_12, if_pos kr_13]; done) | (simp only [if_pos b_1, te_3, if_pos kr_10, if_pos kr_11, if_pos kr_12, if_pos kr_13]; rfl) | rfl)⟩ [0, 1, 2, 3, 4, 5, 6] rfl (by first | (simp only [if_pos b_1, te_3, if_pos kr_10, if_pos kr_11, if_pos kr_12, if_pos kr_13]; rfl) | rfl | (rw [e_3]; rfl))
    · skip
      replace e_3 : i = 2 := e_3
      have te_3 : i.toNatClampNeg = 2 := by rw [e_3]; decide
      refine g_lvq (lv' := [(0, .ref (ad 0)), (1, .int 2), (2, .int a), (3, .int b), (4, .int de), (5, .int mx)]) (by rw [e_3]) ?_
      refine g_aload_n B 0 0 dX1_setWaves_0 rfl rfl ?_
      refine g_iload_n B 1 1 dX1_setWaves_1 rfl rfl ?_
      refine g_cuV_q (C := RX1) (T := TX1) (N := 17) (As := [.int 2]) B (m_X1_instrument l hst g ad e0 mi lo su 2 2 (by decide) (by decide) (ig 2)) 0 0 rfl rfl [0, 1, 2, 5] [] (lw_V q764 q766 qs14 q26 q767) nvX1_instrument rfl rfl rfl rfl (Nat.le_of_ble_eq_true rfl) dX1_setWaves_2 ⟨Nat.le_of_ble_eq_true rfl, Nat.le_of_ble_eq_true rfl⟩ ⟨Nat.le_of_ble_eq_true rfl, Nat.le_of_ble_eq_true rfl⟩ (fun r_14 ur_14 hr_14 => ?_)
      obtain rfl : some (ad 6) = r_14 := (hr_14).symm
      refine g_eqs (st' := [.ref (ad 6)]) rfl ?_
      refine g_astore B [(6, .ref (ad 6)), (0, .ref (ad 0)), (1, .int 2), (2, .int a), (3, .int b), (4, .int de), (5, .int mx)] dX1_setWaves_5 (Nat.le_of_ble_eq_true rfl) rfl ?_
      refine g_iload_n B 2 3 dX1_setWaves_7 rfl rfl ?_
      refine g_iconst (v := 4) B dX1_setWaves_8 kc_4 ?_
      refine g_xuS_v (As := [.int a, .int 4]) B (m_X1_requireIndex l hst g a 4) [] [] (lw_S q669 q670 q26 q671) nsX1_requireIndex rfl rfl rfl rfl (Nat.le_of_ble_eq_true rfl) dX1_setWaves_9 ⟨Nat.le_of_ble_eq_true rfl, Nat.le_of_ble_eq_true rfl⟩ ⟨Nat.le_of_ble_eq_true rfl, Nat.le_of_ble_eq_true rfl⟩ (fun E hE => ?_) (fun ur_15 hr_15 => ?_)
      · skip
        have hK9 : ¬ (ix_k a 4) = 0 := by rw [hE.2]; decide
        exact g_xout B hT hA9 (Nat.le_of_ble_eq_true rfl) (Nat.le_of_ble_eq_true rfl) (Or.inl ⟨hE.1, (by first | exact hE.2 | (simp only [k_waves, if_pos b_1, te_3, if_neg hK9]; done) | (simp only [k_waves, if_pos b_1, te_3, if_neg hK9]; rfl) | rfl)⟩) [0, 1, 2, 3, 4, 5, 6] rfl rfl
      have kr_15 : (ix_k a 4) = 0 := hr_15
      refine g_iload_n B 3 4 dX1_setWaves_12 rfl rfl ?_
      refine g_iconst (v := 4) B dX1_setWaves_13 kc_4 ?_
      refine g_xuS_v (As := [.int b, .int 4]) B (m_X1_requireIndex l hst g b 4) [] [] (lw_S q669 q670 q26 q671) nsX1_requireIndex rfl rfl rfl rfl (Nat.le_of_ble_eq_true rfl) dX1_setWaves_14 ⟨Nat.le_of_ble_eq_true rfl, Nat.le_of_ble_eq_true rfl⟩ ⟨Nat.le_of_ble_eq_true rfl, Nat.le_of_ble_eq_true rfl⟩ (fun E hE => ?_) (fun ur_16 hr_16 => ?_)
      · skip
        have hK9 : ¬ (ix_k b 4) = 0 := by rw [hE.2]; decide
        exact g_xout B hT hA9 (Nat.le_of_ble_eq_true rfl) (Nat.le_of_ble_eq_true rfl) (Or.inl ⟨hE.1, (by first | exact hE.2 | (simp only [k_waves, if_pos b_1, te_3, if_pos kr_15, if_neg hK9]; done) | (simp only [k_waves, if_pos b_1, te_3, if_pos kr_15, if_neg hK9]; rfl) | rfl)⟩) [0, 1, 2, 3, 4, 5, 6] rfl rfl
      have kr_16 : (ix_k b 4) = 0 := hr_16
      refine g_bipush (v := (-64)) B dX1_setWaves_17 kb_m64 ?_
      refine g_bipush (v := 64) B dX1_setWaves_19 kb_64 ?_
      refine g_iload B 5 dX1_setWaves_21 rfl ?_
      refine g_xuS_v (As := [.int (-64), .int 64, .int de]) B (m_X1_requireFrom l hst g (-64) 64 de) [] [] (lw_S q580 q581 q26 q582) nsX1_requireFrom rfl rfl rfl rfl (Nat.le_of_ble_eq_true rfl) dX1_setWaves_23 ⟨Nat.le_of_ble_eq_true rfl, Nat.le_of_ble_eq_true rfl⟩ ⟨Nat.le_of_ble_eq_true rfl, Nat.le_of_ble_eq_true rfl⟩ (fun E hE => ?_) (fun ur_17 hr_17 => ?_)
      · skip
        have hK9 : ¬ (fr_k (-64) 64 de) = 0 := by rw [hE.2]; decide
        exact g_xout B hT hA9 (Nat.le_of_ble_eq_true rfl) (Nat.le_of_ble_eq_true rfl) (Or.inr ⟨hE.1, (by first | exact hE.2 | (simp only [k_waves, if_pos b_1, te_3, if_pos kr_15, if_pos kr_16, if_neg hK9]; done) | (simp only [k_waves, if_pos b_1, te_3, if_pos kr_15, if_pos kr_16, if_neg hK9]; rfl) | rfl)⟩) [0, 1, 2, 3, 4, 5, 6] rfl rfl
      have kr_17 : (fr_k (-64) 64 de) = 0 := hr_17
      refine g_iconst (v := 0) B dX1_setWaves_26 kc_0 ?_
      refine g_bipush (v := 100) B dX1_setWaves_27 kb_100 ?_
      refine g_iload B 6 dX1_setWaves_29 rfl ?_
      refine g_xuS_v (As := [.int 0, .int 100, .int mx]) B (m_X1_requireFrom l hst g 0 100 mx) [] [] (lw_S q580 q581 q26 q582) nsX1_requireFrom rfl rfl rfl rfl (Nat.le_of_ble_eq_true rfl) dX1_setWaves_31 ⟨Nat.le_of_ble_eq_true rfl, Nat.le_of_ble_eq_true rfl⟩ ⟨Nat.le_of_ble_eq_true rfl, Nat.le_of_ble_eq_true rfl⟩ (fun E hE => ?_) (fun ur_18 hr_18 => ?_)
      · skip
        have hK9 : ¬ (fr_k 0 100 mx) = 0 := by rw [hE.2]; decide
        exact g_xout B hT hA9 (Nat.le_of_ble_eq_true rfl) (Nat.le_of_ble_eq_true rfl) (Or.inr ⟨hE.1, (by first | exact hE.2 | (simp only [k_waves, if_pos b_1, te_3, if_pos kr_15, if_pos kr_16, if_pos kr_17, if_neg hK9]; done) | (simp only [k_waves, if_pos b_1, te_3, if_pos kr_15, if_pos kr_16, if_pos kr_17, if_neg hK9]; rfl) | rfl)⟩) [0, 1, 2, 3, 4, 5, 6] rfl rfl
      have kr_18 : (fr_k 0 100 mx) = 0 := hr_18
      refine g_aload B 0 dX1_setWaves_34 rfl ?_
      refine g_getN (C := RX3) (T := TX3) (N := 12) B 2 5 3 (.int ((ig 2) 3)) in_X3 rfl q151 rfl (Nat.le_of_ble_eq_true rfl) (fun _ h9 => h9) rfl dX1_setWaves_36 ?_
      refine g_istore B [(7, .int ((ig 2) 3)), (6, .ref (ad 6)), (0, .ref (ad 0)), (1, .int 2), (2, .int a), (3, .int b), (4, .int de), (5, .int mx)] dX1_setWaves_39 (Nat.le_of_ble_eq_true rfl) rfl ?_
      refine g_aload B 1 dX1_setWaves_41 rfl ?_
      refine g_iload_n B 2 4 dX1_setWaves_43 rfl rfl ?_
      refine g_putN (C := RX3) (T := TX3) (N := 12) (ty := .int) (v := .int a) B 2 5 0 [((ad 0), cM ad e0 mi lo su), ((ad 2), cA (ad 3) al4), ((ad 3), .inl (g.2.2.1, 10, .inr (.inr (.inr (.inr (iq ad)))))), ((ad 4), cI (ig 0)), ((ad 5), cI (ig 1)), ((ad 6), cI (upd (ig 2) 0 a)), ((ad 7), cI (ig 3))] in_X3 tyX3 tyX3_ok nmX3 rfl q145 rfl (Nat.le_of_ble_eq_true rfl) (fun _ h9 => h9) rfl rfl rfl rfl (Nat.le_of_ble_eq_true rfl) rfl dX1_setWaves_44 ?_
      refine g_aload B 1 dX1_setWaves_47 rfl ?_
      refine g_iload_n B 3 5 dX1_setWaves_49 rfl rfl ?_
      refine g_putN (C := RX3) (T := TX3) (N := 12) (ty := .int) (v := .int b) B 2 5 1 [((ad 0), cM ad e0 mi lo su), ((ad 2), cA (ad 3) al4), ((ad 3), .inl (g.2.2.1, 10, .inr (.inr (.inr (.inr (iq ad)))))), ((ad 4), cI (ig 0)), ((ad 5), cI (ig 1)), ((ad 6), cI (upd (upd (ig 2) 0 a) 1 b)), ((ad 7), cI (ig 3))] in_X3 tyX3 tyX3_ok nmX3 rfl q147 rfl (Nat.le_of_ble_eq_true rfl) (fun _ h9 => h9) rfl rfl rfl rfl (Nat.le_of_ble_eq_true rfl) rfl dX1_setWaves_50 ?_
      refine g_aload B 1 dX1_setWaves_53 rfl ?_
      refine g_iload B 6 dX1_setWaves_55 rfl ?_
      refine g_putN (C := RX3) (T := TX3) (N := 12) (ty := .int) (v := .int de) B 2 5 2 [((ad 0), cM ad e0 mi lo su), ((ad 2), cA (ad 3) al4), ((ad 3), .inl (g.2.2.1, 10, .inr (.inr (.inr (.inr (iq ad)))))), ((ad 4), cI (ig 0)), ((ad 5), cI (ig 1)), ((ad 6), cI (upd (upd (upd (ig 2) 0 a) 1 b) 2 de)), ((ad 7), cI (ig 3))] in_X3 tyX3 tyX3_ok nmX3 rfl q149 rfl (Nat.le_of_ble_eq_true rfl) (fun _ h9 => h9) rfl rfl rfl rfl (Nat.le_of_ble_eq_true rfl) rfl dX1_setWaves_57 ?_
      refine g_aload B 1 dX1_setWaves_60 rfl ?_
      refine g_iload B 7 dX1_setWaves_62 rfl ?_
      refine g_putN (C := RX3) (T := TX3) (N := 12) (ty := .int) (v := .int mx) B 2 5 3 [((ad 0), cM ad e0 mi lo su), ((ad 2), cA (ad 3) al4), ((ad 3), .inl (g.2.2.1, 10, .inr (.inr (.inr (.inr (iq ad)))))), ((ad 4), cI (ig 0)), ((ad 5), cI (ig 1)), ((ad 6), cI (upd (upd (upd (upd (ig 2) 0 a) 1 b) 2 de) 3 mx)), ((ad 7), cI (ig 3))] in_X3 tyX3 tyX3_ok nmX3 rfl q151 rfl (Nat.le_of_ble_eq_true rfl) (fun _ h9 => h9) rfl rfl rfl rfl (Nat.le_of_ble_eq_true rfl) rfl dX1_setWaves_64 ?_
      refine g_iload B 0 dX1_setWaves_67 rfl ?_
      exact g_xiret B hr dX1_setWaves_69 (Nat.le_of_ble_eq_true rfl) (Nat.le_of_ble_eq_true rfl) () ⟨(by first | (simp only [k_waves, if_pos b_1, te_3, if_pos kr_15, if_pos kr_16, if_pos kr_17, if_pos kr_18]; done) | (simp only [k_waves, if_pos b_1, te_3, if_pos kr_15, if_pos kr_16, if_pos kr_17, if_pos kr_18]; rfl) | rfl), (by first | (simp only [if_pos b_1, te_3, if_pos kr_15, if_pos kr_16, if_pos kr_17, if_pos kr_18]; done) | (simp only [if_pos b_1, te_3, if_pos kr_15, if_pos kr_16, if_pos kr_17, if_pos kr_18]; rfl) | rfl)⟩ [0, 1, 2, 3, 4, 5, 6] rfl (by first | (simp only [if_pos b_1, te_3, if_pos kr_15, if_pos kr_16, if_pos kr_17, if_pos kr_18]; rfl) | rfl | (rw [e_3]; rfl))
    · skip
      replace e_3 : i = 3 := e_3
      have te_3 : i.toNatClampNeg = 3 := by rw [e_3]; decide
      refine g_lvq (lv' := [(0, .ref (ad 0)), (1, .int 3), (2, .int a), (3, .int b), (4, .int de), (5, .int mx)]) (by rw [e_3]) ?_
      refine g_aload_n B 0 0 dX1_setWaves_0 rfl rfl ?_
      refine g_iload_n B 1 1 dX1_setWaves_1 rfl rfl ?_
      refine g_cuV_q (C := RX1) (T := TX1) (N := 17) (As := [.int 3]) B (m_X1_instrument l hst g ad e0 mi lo su 3 3 (by decide) (by decide) (ig 3)) 0 0 rfl rfl [0, 1, 2, 6] [] (lw_V q764 q766 qs14 q26 q767) nvX1_instrument rfl rfl rfl rfl (Nat.le_of_ble_eq_true rfl) dX1_setWaves_2 ⟨Nat.le_of_ble_eq_true rfl, Nat.le_of_ble_eq_true rfl⟩ ⟨Nat.le_of_ble_eq_true rfl, Nat.le_of_ble_eq_true rfl⟩ (fun r_19 ur_19 hr_19 => ?_)
      obtain rfl : some (ad 7) = r_19 := (hr_19).symm
      refine g_eqs (st' := [.ref (ad 7)]) rfl ?_
      refine g_astore B [(6, .ref (ad 7)), (0, .ref (ad 0)), (1, .int 3), (2, .int a), (3, .int b), (4, .int de), (5, .int mx)] dX1_setWaves_5 (Nat.le_of_ble_eq_true rfl) rfl ?_
      refine g_iload_n B 2 3 dX1_setWaves_7 rfl rfl ?_
      refine g_iconst (v := 4) B dX1_setWaves_8 kc_4 ?_
      refine g_xuS_v (As := [.int a, .int 4]) B (m_X1_requireIndex l hst g a 4) [] [] (lw_S q669 q670 q26 q671) nsX1_requireIndex rfl rfl rfl rfl (Nat.le_of_ble_eq_true rfl) dX1_setWaves_9 ⟨Nat.le_of_ble_eq_true rfl, Nat.le_of_ble_eq_true rfl⟩ ⟨Nat.le_of_ble_eq_true rfl, Nat.le_of_ble_eq_true rfl⟩ (fun E hE => ?_) (fun ur_20 hr_20 => ?_)
      · skip
        have hK9 : ¬ (ix_k a 4) = 0 := by rw [hE.2]; decide
        exact g_xout B hT hA9 (Nat.le_of_ble_eq_true rfl) (Nat.le_of_ble_eq_true rfl) (Or.inl ⟨hE.1, (by first | exact hE.2 | (simp only [k_waves, if_pos b_1, te_3, if_neg hK9]; done) | (simp only [k_waves, if_pos b_1, te_3, if_neg hK9]; rfl) | rfl)⟩) [0, 1, 2, 3, 4, 5, 6] rfl rfl
      have kr_20 : (ix_k a 4) = 0 := hr_20
      refine g_iload_n B 3 4 dX1_setWaves_12 rfl rfl ?_
      refine g_iconst (v := 4) B dX1_setWaves_13 kc_4 ?_
      refine g_xuS_v (As := [.int b, .int 4]) B (m_X1_requireIndex l hst g b 4) [] [] (lw_S q669 q670 q26 q671) nsX1_requireIndex rfl rfl rfl rfl (Nat.le_of_ble_eq_true rfl) dX1_setWaves_14 ⟨Nat.le_of_ble_eq_true rfl, Nat.le_of_ble_eq_true rfl⟩ ⟨Nat.le_of_ble_eq_true rfl, Nat.le_of_ble_eq_true rfl⟩ (fun E hE => ?_) (fun ur_21 hr_21 => ?_)
      · skip
        have hK9 : ¬ (ix_k b 4) = 0 := by rw [hE.2]; decide
        exact g_xout B hT hA9 (Nat.le_of_ble_eq_true rfl) (Nat.le_of_ble_eq_true rfl) (Or.inl ⟨hE.1, (by first | exact hE.2 | (simp only [k_waves, if_pos b_1, te_3, if_pos kr_20, if_neg hK9]; done) | (simp only [k_waves, if_pos b_1, te_3, if_pos kr_20, if_neg hK9]; rfl) | rfl)⟩) [0, 1, 2, 3, 4, 5, 6] rfl rfl
      have kr_21 : (ix_k b 4) = 0 := hr_21
      refine g_bipush (v := (-64)) B dX1_setWaves_17 kb_m64 ?_
      refine g_bipush (v := 64) B dX1_setWaves_19 kb_64 ?_
      refine g_iload B 5 dX1_setWaves_21 rfl ?_
      refine g_xuS_v (As := [.int (-64), .int 64, .int de]) B (m_X1_requireFrom l hst g (-64) 64 de) [] [] (lw_S q580 q581 q26 q582) nsX1_requireFrom rfl rfl rfl rfl (Nat.le_of_ble_eq_true rfl) dX1_setWaves_23 ⟨Nat.le_of_ble_eq_true rfl, Nat.le_of_ble_eq_true rfl⟩ ⟨Nat.le_of_ble_eq_true rfl, Nat.le_of_ble_eq_true rfl⟩ (fun E hE => ?_) (fun ur_22 hr_22 => ?_)
      · skip
        have hK9 : ¬ (fr_k (-64) 64 de) = 0 := by rw [hE.2]; decide
        exact g_xout B hT hA9 (Nat.le_of_ble_eq_true rfl) (Nat.le_of_ble_eq_true rfl) (Or.inr ⟨hE.1, (by first | exact hE.2 | (simp only [k_waves, if_pos b_1, te_3, if_pos kr_20, if_pos kr_21, if_neg hK9]; done) | (simp only [k_waves, if_pos b_1, te_3, if_pos kr_20, if_pos kr_21, if_neg hK9]; rfl) | rfl)⟩) [0, 1, 2, 3, 4, 5, 6] rfl rfl
      have kr_22 : (fr_k (-64) 64 de) = 0 := hr_22
      refine g_iconst (v := 0) B dX1_setWaves_26 kc_0 ?_
      refine g_bipush (v := 100) B dX1_setWaves_27 kb_100 ?_
      refine g_iload B 6 dX1_setWaves_29 rfl ?_
      refine g_xuS_v (As := [.int 0, .int 100, .int mx]) B (m_X1_requireFrom l hst g 0 100 mx) [] [] (lw_S q580 q581 q26 q582) nsX1_requireFrom rfl rfl rfl rfl (Nat.le_of_ble_eq_true rfl) dX1_setWaves_31 ⟨Nat.le_of_ble_eq_true rfl, Nat.le_of_ble_eq_true rfl⟩ ⟨Nat.le_of_ble_eq_true rfl, Nat.le_of_ble_eq_true rfl⟩ (fun E hE => ?_) (fun ur_23 hr_23 => ?_)
      · skip
        have hK9 : ¬ (fr_k 0 100 mx) = 0 := by rw [hE.2]; decide
        exact g_xout B hT hA9 (Nat.le_of_ble_eq_true rfl) (Nat.le_of_ble_eq_true rfl) (Or.inr ⟨hE.1, (by first | exact hE.2 | (simp only [k_waves, if_pos b_1, te_3, if_pos kr_20, if_pos kr_21, if_pos kr_22, if_neg hK9]; done) | (simp only [k_waves, if_pos b_1, te_3, if_pos kr_20, if_pos kr_21, if_pos kr_22, if_neg hK9]; rfl) | rfl)⟩) [0, 1, 2, 3, 4, 5, 6] rfl rfl
      have kr_23 : (fr_k 0 100 mx) = 0 := hr_23
      refine g_aload B 0 dX1_setWaves_34 rfl ?_
      refine g_getN (C := RX3) (T := TX3) (N := 12) B 2 6 3 (.int ((ig 3) 3)) in_X3 rfl q151 rfl (Nat.le_of_ble_eq_true rfl) (fun _ h9 => h9) rfl dX1_setWaves_36 ?_
      refine g_istore B [(7, .int ((ig 3) 3)), (6, .ref (ad 7)), (0, .ref (ad 0)), (1, .int 3), (2, .int a), (3, .int b), (4, .int de), (5, .int mx)] dX1_setWaves_39 (Nat.le_of_ble_eq_true rfl) rfl ?_
      refine g_aload B 1 dX1_setWaves_41 rfl ?_
      refine g_iload_n B 2 4 dX1_setWaves_43 rfl rfl ?_
      refine g_putN (C := RX3) (T := TX3) (N := 12) (ty := .int) (v := .int a) B 2 6 0 [((ad 0), cM ad e0 mi lo su), ((ad 2), cA (ad 3) al4), ((ad 3), .inl (g.2.2.1, 10, .inr (.inr (.inr (.inr (iq ad)))))), ((ad 4), cI (ig 0)), ((ad 5), cI (ig 1)), ((ad 6), cI (ig 2)), ((ad 7), cI (upd (ig 3) 0 a))] in_X3 tyX3 tyX3_ok nmX3 rfl q145 rfl (Nat.le_of_ble_eq_true rfl) (fun _ h9 => h9) rfl rfl rfl rfl (Nat.le_of_ble_eq_true rfl) rfl dX1_setWaves_44 ?_
      refine g_aload B 1 dX1_setWaves_47 rfl ?_
      refine g_iload_n B 3 5 dX1_setWaves_49 rfl rfl ?_
      refine g_putN (C := RX3) (T := TX3) (N := 12) (ty := .int) (v := .int b) B 2 6 1 [((ad 0), cM ad e0 mi lo su), ((ad 2), cA (ad 3) al4), ((ad 3), .inl (g.2.2.1, 10, .inr (.inr (.inr (.inr (iq ad)))))), ((ad 4), cI (ig 0)), ((ad 5), cI (ig 1)), ((ad 6), cI (ig 2)), ((ad 7), cI (upd (upd (ig 3) 0 a) 1 b))] in_X3 tyX3 tyX3_ok nmX3 rfl q147 rfl (Nat.le_of_ble_eq_true rfl) (fun _ h9 => h9) rfl rfl rfl rfl (Nat.le_of_ble_eq_true rfl) rfl dX1_setWaves_50 ?_
      refine g_aload B 1 dX1_setWaves_53 rfl ?_
      refine g_iload B 6 dX1_setWaves_55 rfl ?_
      refine g_putN (C := RX3) (T := TX3) (N := 12) (ty := .int) (v := .int de) B 2 6 2 [((ad 0), cM ad e0 mi lo su), ((ad 2), cA (ad 3) al4), ((ad 3), .inl (g.2.2.1, 10, .inr (.inr (.inr (.inr (iq ad)))))), ((ad 4), cI (ig 0)), ((ad 5), cI (ig 1)), ((ad 6), cI (ig 2)), ((ad 7), cI (upd (upd (upd (ig 3) 0 a) 1 b) 2 de))] in_X3 tyX3 tyX3_ok nmX3 rfl q149 rfl (Nat.le_of_ble_eq_true rfl) (fun _ h9 => h9) rfl rfl rfl rfl (Nat.le_of_ble_eq_true rfl) rfl dX1_setWaves_57 ?_
      refine g_aload B 1 dX1_setWaves_60 rfl ?_
      refine g_iload B 7 dX1_setWaves_62 rfl ?_
      refine g_putN (C := RX3) (T := TX3) (N := 12) (ty := .int) (v := .int mx) B 2 6 3 [((ad 0), cM ad e0 mi lo su), ((ad 2), cA (ad 3) al4), ((ad 3), .inl (g.2.2.1, 10, .inr (.inr (.inr (.inr (iq ad)))))), ((ad 4), cI (ig 0)), ((ad 5), cI (ig 1)), ((ad 6), cI (ig 2)), ((ad 7), cI (upd (upd (upd (upd (ig 3) 0 a) 1 b) 2 de) 3 mx))] in_X3 tyX3 tyX3_ok nmX3 rfl q151 rfl (Nat.le_of_ble_eq_true rfl) (fun _ h9 => h9) rfl rfl rfl rfl (Nat.le_of_ble_eq_true rfl) rfl dX1_setWaves_64 ?_
      refine g_iload B 0 dX1_setWaves_67 rfl ?_
      exact g_xiret B hr dX1_setWaves_69 (Nat.le_of_ble_eq_true rfl) (Nat.le_of_ble_eq_true rfl) () ⟨(by first | (simp only [k_waves, if_pos b_1, te_3, if_pos kr_20, if_pos kr_21, if_pos kr_22, if_pos kr_23]; done) | (simp only [k_waves, if_pos b_1, te_3, if_pos kr_20, if_pos kr_21, if_pos kr_22, if_pos kr_23]; rfl) | rfl), (by first | (simp only [if_pos b_1, te_3, if_pos kr_20, if_pos kr_21, if_pos kr_22, if_pos kr_23]; done) | (simp only [if_pos b_1, te_3, if_pos kr_20, if_pos kr_21, if_pos kr_22, if_pos kr_23]; rfl) | rfl)⟩ [0, 1, 2, 3, 4, 5, 6] rfl (by first | (simp only [if_pos b_1, te_3, if_pos kr_20, if_pos kr_21, if_pos kr_22, if_pos kr_23]; rfl) | rfl | (rw [e_3]; rfl))
  · skip
    refine g_aload_n B 0 0 dX1_setWaves_0 rfl rfl ?_
    refine g_iload_n B 1 1 dX1_setWaves_1 rfl rfl ?_
    refine g_xuV_q (C := RX1) (T := TX1) (N := 17) (As := [.int i]) B (m_X1_instrument_b l hst g ad e0 mi lo su i b_1) 0 0 rfl rfl [0] [] (lw_V q764 q766 qs14 q26 q767) nvX1_instrument rfl rfl rfl rfl (Nat.le_of_ble_eq_true rfl) dX1_setWaves_2 ⟨Nat.le_of_ble_eq_true rfl, Nat.le_of_ble_eq_true rfl⟩ ⟨Nat.le_of_ble_eq_true rfl, Nat.le_of_ble_eq_true rfl⟩ (fun E hE => ?_) (fun r_24 ur_24 hr_24 => ?_)
    · skip
      have hK9 : ¬ (ix_k i 4) = 0 := by rw [hE.2]; decide
      exact g_xout B hT hA9 (Nat.le_of_ble_eq_true rfl) (Nat.le_of_ble_eq_true rfl) (Or.inl ⟨hE.1, (by first | exact hE.2 | (simp only [k_waves, if_neg b_1, if_neg hK9]; done) | (simp only [k_waves, if_neg b_1, if_neg hK9]; rfl) | rfl)⟩) [0, 1, 2, 3, 4, 5, 6] rfl rfl
    have kr_24 : (ix_k i 4) = 0 := hr_24.1
    replace hr_24 := hr_24.2
    exact absurd kr_24 b_1

set_option maxHeartbeats 4000000 in
set_option maxRecDepth 100000 in
theorem m_X1_setEnvelope (l : Launch) (hst : l.stackTraces = false) (g : gG) (ad : Nat → Nat) (e0 : Nat) (mi : Nat → Int32) (lo su : Int64) (ig : Nat → Nat → Int32) (i a de u re : Int32) : gXi l yX1_setEnvelope cX1_setEnvelope 8 .int 8 131 8 48 g [((ad 0), cM ad e0 mi lo su), ((ad 2), cA (ad 3) al4), ((ad 3), .inl (g.2.2.1, 10, .inr (.inr (.inr (.inr (iq ad)))))), ((ad 4), cI (ig 0)), ((ad 5), cI (ig 1)), ((ad 6), cI (ig 2)), ((ad 7), cI (ig 3))] [.ref (ad 0), .int i, .int a, .int de, .int u, .int re] (fun (r : Int32) (_ : Unit) => (k_env i a de u re) = 0 ∧ r = ig i.toNatClampNeg 6) (fun _ : Unit => [((ad 0), cM ad e0 mi lo su), ((ad 2), cA (ad 3) al4), ((ad 3), .inl (g.2.2.1, 10, .inr (.inr (.inr (.inr (iq ad)))))), ((ad 4), cI ((va_up ig i.toNatClampNeg (s_env (ig i.toNatClampNeg) a de u re)) 0)), ((ad 5), cI ((va_up ig i.toNatClampNeg (s_env (ig i.toNatClampNeg) a de u re)) 1)), ((ad 6), cI ((va_up ig i.toNatClampNeg (s_env (ig i.toNatClampNeg) a de u re)) 2)), ((ad 7), cI ((va_up ig i.toNatClampNeg (s_env (ig i.toNatClampNeg) a de u re)) 3))]) (fun E : String => (E = eIO ∧ (k_env i a de u re) = 1) ∨ (E = eIA ∧ (k_env i a de u re) = 2)) := by
  intro sz
  refine g_xent (by decide) hst [(0, .ref (ad 0)), (1, .int i), (2, .int a), (3, .int de), (4, .int u), (5, .int re)] (Nat.le_of_ble_eq_true rfl) rfl ?_
  intro p e s m below meth c B hr hnm hsz hT
  have B : gB p l s m ([.ref (ad 0), .int i, .int a, .int de, .int u, .int re] : List Value).toArray meth c RX1 cX1_setEnvelope 8 g (va_A [((ad 0), cM ad e0 mi lo su), ((ad 2), cA (ad 3) al4), ((ad 3), .inl (g.2.2.1, 10, .inr (.inr (.inr (.inr (iq ad)))))), ((ad 4), cI (ig 0)), ((ad 5), cI (ig 1)), ((ad 6), cI (ig 2)), ((ad 7), cI (ig 3))] sz) := B
  have hA9 : (va_A [((ad 0), cM ad e0 mi lo su), ((ad 2), cA (ad 3) al4), ((ad 3), .inl (g.2.2.1, 10, .inr (.inr (.inr (.inr (iq ad)))))), ((ad 4), cI (ig 0)), ((ad 5), cI (ig 1)), ((ad 6), cI (ig 2)), ((ad 7), cI (ig 3))] sz) = va_A [((ad 0), cM ad e0 mi lo su), ((ad 2), cA (ad 3) al4), ((ad 3), .inl (g.2.2.1, 10, .inr (.inr (.inr (.inr (iq ad)))))), ((ad 4), cI (ig 0)), ((ad 5), cI (ig 1)), ((ad 6), cI (ig 2)), ((ad 7), cI (ig 3))] s.heap.size := by rw [hsz]
  subst hsz
  by_cases b_1 : ix_k i 4 = 0
  · skip
    obtain ⟨q_2, hq_2, e_3⟩ := ix_nat (N := 4) b_1 (by decide) (by decide)
    rcases (show q_2 = 0 ∨ q_2 = 1 ∨ q_2 = 2 ∨ q_2 = 3 by omega) with rfl | rfl | rfl | rfl
    · skip
      replace e_3 : i = 0 := e_3
      have te_3 : i.toNatClampNeg = 0 := by rw [e_3]; decide
      refine g_lvq (lv' := [(0, .ref (ad 0)), (1, .int 0), (2, .int a), (3, .int de), (4, .int u), (5, .int re)]) (by rw [e_3]) ?_
      refine g_aload_n B 0 0 dX1_setEnvelope_0 rfl rfl ?_
      refine g_iload_n B 1 1 dX1_setEnvelope_1 rfl rfl ?_
      refine g_cuV_q (C := RX1) (T := TX1) (N := 17) (As := [.int 0]) B (m_X1_instrument l hst g ad e0 mi lo su 0 0 (by decide) (by decide) (ig 0)) 0 0 rfl rfl [0, 1, 2, 3] [] (lw_V q764 q766 qs14 q26 q767) nvX1_instrument rfl rfl rfl rfl (Nat.le_of_ble_eq_true rfl) dX1_setEnvelope_2 ⟨Nat.le_of_ble_eq_true rfl, Nat.le_of_ble_eq_true rfl⟩ ⟨Nat.le_of_ble_eq_true rfl, Nat.le_of_ble_eq_true rfl⟩ (fun r_4 ur_4 hr_4 => ?_)
      obtain rfl : some (ad 4) = r_4 := (hr_4).symm
      refine g_eqs (st' := [.ref (ad 4)]) rfl ?_
      refine g_astore B [(6, .ref (ad 4)), (0, .ref (ad 0)), (1, .int 0), (2, .int a), (3, .int de), (4, .int u), (5, .int re)] dX1_setEnvelope_5 (Nat.le_of_ble_eq_true rfl) rfl ?_
      refine g_iconst (v := 1) B dX1_setEnvelope_7 kc_1 ?_
      refine g_sipush (v := 400) B dX1_setEnvelope_8 ks_400 ?_
      refine g_iload_n B 2 3 dX1_setEnvelope_11 rfl rfl ?_
      refine g_xuS_v (As := [.int 1, .int 400, .int a]) B (m_X1_requireFrom l hst g 1 400 a) [] [] (lw_S q580 q581 q26 q582) nsX1_requireFrom rfl rfl rfl rfl (Nat.le_of_ble_eq_true rfl) dX1_setEnvelope_12 ⟨Nat.le_of_ble_eq_true rfl, Nat.le_of_ble_eq_true rfl⟩ ⟨Nat.le_of_ble_eq_true rfl, Nat.le_of_ble_eq_true rfl⟩ (fun E hE => ?_) (fun ur_5 hr_5 => ?_)
      · skip
        have hK9 : ¬ (fr_k 1 400 a) = 0 := by rw [hE.2]; decide
        exact g_xout B hT hA9 (Nat.le_of_ble_eq_true rfl) (Nat.le_of_ble_eq_true rfl) (Or.inr ⟨hE.1, (by first | exact hE.2 | (simp only [k_env, if_pos b_1, te_3, if_neg hK9]; done) | (simp only [k_env, if_pos b_1, te_3, if_neg hK9]; rfl) | rfl)⟩) [0, 1, 2, 3, 4, 5, 6] rfl rfl
      have kr_5 : (fr_k 1 400 a) = 0 := hr_5
      refine g_iconst (v := 1) B dX1_setEnvelope_15 kc_1 ?_
      refine g_sipush (v := 400) B dX1_setEnvelope_16 ks_400 ?_
      refine g_iload_n B 3 4 dX1_setEnvelope_19 rfl rfl ?_
      refine g_xuS_v (As := [.int 1, .int 400, .int de]) B (m_X1_requireFrom l hst g 1 400 de) [] [] (lw_S q580 q581 q26 q582) nsX1_requireFrom rfl rfl rfl rfl (Nat.le_of_ble_eq_true rfl) dX1_setEnvelope_20 ⟨Nat.le_of_ble_eq_true rfl, Nat.le_of_ble_eq_true rfl⟩ ⟨Nat.le_of_ble_eq_true rfl, Nat.le_of_ble_eq_true rfl⟩ (fun E hE => ?_) (fun ur_6 hr_6 => ?_)
      · skip
        have hK9 : ¬ (fr_k 1 400 de) = 0 := by rw [hE.2]; decide
        exact g_xout B hT hA9 (Nat.le_of_ble_eq_true rfl) (Nat.le_of_ble_eq_true rfl) (Or.inr ⟨hE.1, (by first | exact hE.2 | (simp only [k_env, if_pos b_1, te_3, if_pos kr_5, if_neg hK9]; done) | (simp only [k_env, if_pos b_1, te_3, if_pos kr_5, if_neg hK9]; rfl) | rfl)⟩) [0, 1, 2, 3, 4, 5, 6] rfl rfl
      have kr_6 : (fr_k 1 400 de) = 0 := hr_6
      refine g_iconst (v := 0) B dX1_setEnvelope_23 kc_0 ?_
      refine g_sipush (v := 1000) B dX1_setEnvelope_24 ks_1000 ?_
      refine g_iload B 5 dX1_setEnvelope_27 rfl ?_
      refine g_xuS_v (As := [.int 0, .int 1000, .int u]) B (m_X1_requireFrom l hst g 0 1000 u) [] [] (lw_S q580 q581 q26 q582) nsX1_requireFrom rfl rfl rfl rfl (Nat.le_of_ble_eq_true rfl) dX1_setEnvelope_29 ⟨Nat.le_of_ble_eq_true rfl, Nat.le_of_ble_eq_true rfl⟩ ⟨Nat.le_of_ble_eq_true rfl, Nat.le_of_ble_eq_true rfl⟩ (fun E hE => ?_) (fun ur_7 hr_7 => ?_)
      · skip
        have hK9 : ¬ (fr_k 0 1000 u) = 0 := by rw [hE.2]; decide
        exact g_xout B hT hA9 (Nat.le_of_ble_eq_true rfl) (Nat.le_of_ble_eq_true rfl) (Or.inr ⟨hE.1, (by first | exact hE.2 | (simp only [k_env, if_pos b_1, te_3, if_pos kr_5, if_pos kr_6, if_neg hK9]; done) | (simp only [k_env, if_pos b_1, te_3, if_pos kr_5, if_pos kr_6, if_neg hK9]; rfl) | rfl)⟩) [0, 1, 2, 3, 4, 5, 6] rfl rfl
      have kr_7 : (fr_k 0 1000 u) = 0 := hr_7
      refine g_iconst (v := 1) B dX1_setEnvelope_32 kc_1 ?_
      refine g_sipush (v := 400) B dX1_setEnvelope_33 ks_400 ?_
      refine g_iload B 6 dX1_setEnvelope_36 rfl ?_
      refine g_xuS_v (As := [.int 1, .int 400, .int re]) B (m_X1_requireFrom l hst g 1 400 re) [] [] (lw_S q580 q581 q26 q582) nsX1_requireFrom rfl rfl rfl rfl (Nat.le_of_ble_eq_true rfl) dX1_setEnvelope_38 ⟨Nat.le_of_ble_eq_true rfl, Nat.le_of_ble_eq_true rfl⟩ ⟨Nat.le_of_ble_eq_true rfl, Nat.le_of_ble_eq_true rfl⟩ (fun E hE => ?_) (fun ur_8 hr_8 => ?_)
      · skip
        have hK9 : ¬ (fr_k 1 400 re) = 0 := by rw [hE.2]; decide
        exact g_xout B hT hA9 (Nat.le_of_ble_eq_true rfl) (Nat.le_of_ble_eq_true rfl) (Or.inr ⟨hE.1, (by first | exact hE.2 | (simp only [k_env, if_pos b_1, te_3, if_pos kr_5, if_pos kr_6, if_pos kr_7, if_neg hK9]; done) | (simp only [k_env, if_pos b_1, te_3, if_pos kr_5, if_pos kr_6, if_pos kr_7, if_neg hK9]; rfl) | rfl)⟩) [0, 1, 2, 3, 4, 5, 6] rfl rfl
      have kr_8 : (fr_k 1 400 re) = 0 := hr_8
      refine g_aload B 0 dX1_setEnvelope_41 rfl ?_
      refine g_getN (C := RX3) (T := TX3) (N := 12) B 2 3 6 (.int ((ig 0) 6)) in_X3 rfl q160 rfl (Nat.le_of_ble_eq_true rfl) (fun _ h9 => h9) rfl dX1_setEnvelope_43 ?_
      refine g_istore B [(7, .int ((ig 0) 6)), (6, .ref (ad 4)), (0, .ref (ad 0)), (1, .int 0), (2, .int a), (3, .int de), (4, .int u), (5, .int re)] dX1_setEnvelope_46 (Nat.le_of_ble_eq_true rfl) rfl ?_
      refine g_aload B 1 dX1_setEnvelope_48 rfl ?_
      refine g_iload_n B 2 4 dX1_setEnvelope_50 rfl rfl ?_
      refine g_putN (C := RX3) (T := TX3) (N := 12) (ty := .int) (v := .int a) B 2 3 4 [((ad 0), cM ad e0 mi lo su), ((ad 2), cA (ad 3) al4), ((ad 3), .inl (g.2.2.1, 10, .inr (.inr (.inr (.inr (iq ad)))))), ((ad 4), cI (upd (ig 0) 4 a)), ((ad 5), cI (ig 1)), ((ad 6), cI (ig 2)), ((ad 7), cI (ig 3))] in_X3 tyX3 tyX3_ok nmX3 rfl q154 rfl (Nat.le_of_ble_eq_true rfl) (fun _ h9 => h9) rfl rfl rfl rfl (Nat.le_of_ble_eq_true rfl) rfl dX1_setEnvelope_51 ?_
      refine g_aload B 1 dX1_setEnvelope_54 rfl ?_
      refine g_iload_n B 3 5 dX1_setEnvelope_56 rfl rfl ?_
      refine g_putN (C := RX3) (T := TX3) (N := 12) (ty := .int) (v := .int de) B 2 3 5 [((ad 0), cM ad e0 mi lo su), ((ad 2), cA (ad 3) al4), ((ad 3), .inl (g.2.2.1, 10, .inr (.inr (.inr (.inr (iq ad)))))), ((ad 4), cI (upd (upd (ig 0) 4 a) 5 de)), ((ad 5), cI (ig 1)), ((ad 6), cI (ig 2)), ((ad 7), cI (ig 3))] in_X3 tyX3 tyX3_ok nmX3 rfl q157 rfl (Nat.le_of_ble_eq_true rfl) (fun _ h9 => h9) rfl rfl rfl rfl (Nat.le_of_ble_eq_true rfl) rfl dX1_setEnvelope_57 ?_
      refine g_aload B 1 dX1_setEnvelope_60 rfl ?_
      refine g_iload B 6 dX1_setEnvelope_62 rfl ?_
      refine g_putN (C := RX3) (T := TX3) (N := 12) (ty := .int) (v := .int u) B 2 3 6 [((ad 0), cM ad e0 mi lo su), ((ad 2), cA (ad 3) al4), ((ad 3), .inl (g.2.2.1, 10, .inr (.inr (.inr (.inr (iq ad)))))), ((ad 4), cI (upd (upd (upd (ig 0) 4 a) 5 de) 6 u)), ((ad 5), cI (ig 1)), ((ad 6), cI (ig 2)), ((ad 7), cI (ig 3))] in_X3 tyX3 tyX3_ok nmX3 rfl q160 rfl (Nat.le_of_ble_eq_true rfl) (fun _ h9 => h9) rfl rfl rfl rfl (Nat.le_of_ble_eq_true rfl) rfl dX1_setEnvelope_64 ?_
      refine g_aload B 1 dX1_setEnvelope_67 rfl ?_
      refine g_iload B 7 dX1_setEnvelope_69 rfl ?_
      refine g_putN (C := RX3) (T := TX3) (N := 12) (ty := .int) (v := .int re) B 2 3 7 [((ad 0), cM ad e0 mi lo su), ((ad 2), cA (ad 3) al4), ((ad 3), .inl (g.2.2.1, 10, .inr (.inr (.inr (.inr (iq ad)))))), ((ad 4), cI (upd (upd (upd (upd (ig 0) 4 a) 5 de) 6 u) 7 re)), ((ad 5), cI (ig 1)), ((ad 6), cI (ig 2)), ((ad 7), cI (ig 3))] in_X3 tyX3 tyX3_ok nmX3 rfl q163 rfl (Nat.le_of_ble_eq_true rfl) (fun _ h9 => h9) rfl rfl rfl rfl (Nat.le_of_ble_eq_true rfl) rfl dX1_setEnvelope_71 ?_
      refine g_iload B 0 dX1_setEnvelope_74 rfl ?_
      exact g_xiret B hr dX1_setEnvelope_76 (Nat.le_of_ble_eq_true rfl) (Nat.le_of_ble_eq_true rfl) () ⟨(by first | (simp only [k_env, if_pos b_1, te_3, if_pos kr_5, if_pos kr_6, if_pos kr_7, if_pos kr_8]; done) | (simp only [k_env, if_pos b_1, te_3, if_pos kr_5, if_pos kr_6, if_pos kr_7, if_pos kr_8]; rfl) | rfl), (by first | (simp only [if_pos b_1, te_3, if_pos kr_5, if_pos kr_6, if_pos kr_7, if_pos kr_8]; done) | (simp only [if_pos b_1, te_3, if_pos kr_5, if_pos kr_6, if_pos kr_7, if_pos kr_8]; rfl) | rfl)⟩ [0, 1, 2, 3, 4, 5, 6] rfl (by first | (simp only [if_pos b_1, te_3, if_pos kr_5, if_pos kr_6, if_pos kr_7, if_pos kr_8]; rfl) | rfl | (rw [e_3]; rfl))
    · skip
      replace e_3 : i = 1 := e_3
      have te_3 : i.toNatClampNeg = 1 := by rw [e_3]; decide
      refine g_lvq (lv' := [(0, .ref (ad 0)), (1, .int 1), (2, .int a), (3, .int de), (4, .int u), (5, .int re)]) (by rw [e_3]) ?_
      refine g_aload_n B 0 0 dX1_setEnvelope_0 rfl rfl ?_
      refine g_iload_n B 1 1 dX1_setEnvelope_1 rfl rfl ?_
      refine g_cuV_q (C := RX1) (T := TX1) (N := 17) (As := [.int 1]) B (m_X1_instrument l hst g ad e0 mi lo su 1 1 (by decide) (by decide) (ig 1)) 0 0 rfl rfl [0, 1, 2, 4] [] (lw_V q764 q766 qs14 q26 q767) nvX1_instrument rfl rfl rfl rfl (Nat.le_of_ble_eq_true rfl) dX1_setEnvelope_2 ⟨Nat.le_of_ble_eq_true rfl, Nat.le_of_ble_eq_true rfl⟩ ⟨Nat.le_of_ble_eq_true rfl, Nat.le_of_ble_eq_true rfl⟩ (fun r_9 ur_9 hr_9 => ?_)
      obtain rfl : some (ad 5) = r_9 := (hr_9).symm
      refine g_eqs (st' := [.ref (ad 5)]) rfl ?_
      refine g_astore B [(6, .ref (ad 5)), (0, .ref (ad 0)), (1, .int 1), (2, .int a), (3, .int de), (4, .int u), (5, .int re)] dX1_setEnvelope_5 (Nat.le_of_ble_eq_true rfl) rfl ?_
      refine g_iconst (v := 1) B dX1_setEnvelope_7 kc_1 ?_
      refine g_sipush (v := 400) B dX1_setEnvelope_8 ks_400 ?_
      refine g_iload_n B 2 3 dX1_setEnvelope_11 rfl rfl ?_
      refine g_xuS_v (As := [.int 1, .int 400, .int a]) B (m_X1_requireFrom l hst g 1 400 a) [] [] (lw_S q580 q581 q26 q582) nsX1_requireFrom rfl rfl rfl rfl (Nat.le_of_ble_eq_true rfl) dX1_setEnvelope_12 ⟨Nat.le_of_ble_eq_true rfl, Nat.le_of_ble_eq_true rfl⟩ ⟨Nat.le_of_ble_eq_true rfl, Nat.le_of_ble_eq_true rfl⟩ (fun E hE => ?_) (fun ur_10 hr_10 => ?_)
      · skip
        have hK9 : ¬ (fr_k 1 400 a) = 0 := by rw [hE.2]; decide
        exact g_xout B hT hA9 (Nat.le_of_ble_eq_true rfl) (Nat.le_of_ble_eq_true rfl) (Or.inr ⟨hE.1, (by first | exact hE.2 | (simp only [k_env, if_pos b_1, te_3, if_neg hK9]; done) | (simp only [k_env, if_pos b_1, te_3, if_neg hK9]; rfl) | rfl)⟩) [0, 1, 2, 3, 4, 5, 6] rfl rfl
      have kr_10 : (fr_k 1 400 a) = 0 := hr_10
      refine g_iconst (v := 1) B dX1_setEnvelope_15 kc_1 ?_
      refine g_sipush (v := 400) B dX1_setEnvelope_16 ks_400 ?_
      refine g_iload_n B 3 4 dX1_setEnvelope_19 rfl rfl ?_
      refine g_xuS_v (As := [.int 1, .int 400, .int de]) B (m_X1_requireFrom l hst g 1 400 de) [] [] (lw_S q580 q581 q26 q582) nsX1_requireFrom rfl rfl rfl rfl (Nat.le_of_ble_eq_true rfl) dX1_setEnvelope_20 ⟨Nat.le_of_ble_eq_true rfl, Nat.le_of_ble_eq_true rfl⟩ ⟨Nat.le_of_ble_eq_true rfl, Nat.le_of_ble_eq_true rfl⟩ (fun E hE => ?_) (fun ur_11 hr_11 => ?_)
      · skip
        have hK9 : ¬ (fr_k 1 400 de) = 0 := by rw [hE.2]; decide
        exact g_xout B hT hA9 (Nat.le_of_ble_eq_true rfl) (Nat.le_of_ble_eq_true rfl) (Or.inr ⟨hE.1, (by first | exact hE.2 | (simp only [k_env, if_pos b_1, te_3, if_pos kr_10, if_neg hK9]; done) | (simp only [k_env, if_pos b_1, te_3, if_pos kr_10, if_neg hK9]; rfl) | rfl)⟩) [0, 1, 2, 3, 4, 5, 6] rfl rfl
      have kr_11 : (fr_k 1 400 de) = 0 := hr_11
      refine g_iconst (v := 0) B dX1_setEnvelope_23 kc_0 ?_
      refine g_sipush (v := 1000) B dX1_setEnvelope_24 ks_1000 ?_
      refine g_iload B 5 dX1_setEnvelope_27 rfl ?_
      refine g_xuS_v (As := [.int 0, .int 1000, .int u]) B (m_X1_requireFrom l hst g 0 1000 u) [] [] (lw_S q580 q581 q26 q582) nsX1_requireFrom rfl rfl rfl rfl (Nat.le_of_ble_eq_true rfl) dX1_setEnvelope_29 ⟨Nat.le_of_ble_eq_true rfl, Nat.le_of_ble_eq_true rfl⟩ ⟨Nat.le_of_ble_eq_true rfl, Nat.le_of_ble_eq_true rfl⟩ (fun E hE => ?_) (fun ur_12 hr_12 => ?_)
      · skip
        have hK9 : ¬ (fr_k 0 1000 u) = 0 := by rw [hE.2]; decide
        exact g_xout B hT hA9 (Nat.le_of_ble_eq_true rfl) (Nat.le_of_ble_eq_true rfl) (Or.inr ⟨hE.1, (by first | exact hE.2 | (simp only [k_env, if_pos b_1, te_3, if_pos kr_10, if_pos kr_11, if_neg hK9]; done) | (simp only [k_env, if_pos b_1, te_3, if_pos kr_10, if_pos kr_11, if_neg hK9]; rfl) | rfl)⟩) [0, 1, 2, 3, 4, 5, 6] rfl rfl
      have kr_12 : (fr_k 0 1000 u) = 0 := hr_12
      refine g_iconst (v := 1) B dX1_setEnvelope_32 kc_1 ?_
      refine g_sipush (v := 400) B dX1_setEnvelope_33 ks_400 ?_
      refine g_iload B 6 dX1_setEnvelope_36 rfl ?_
      refine g_xuS_v (As := [.int 1, .int 400, .int re]) B (m_X1_requireFrom l hst g 1 400 re) [] [] (lw_S q580 q581 q26 q582) nsX1_requireFrom rfl rfl rfl rfl (Nat.le_of_ble_eq_true rfl) dX1_setEnvelope_38 ⟨Nat.le_of_ble_eq_true rfl, Nat.le_of_ble_eq_true rfl⟩ ⟨Nat.le_of_ble_eq_true rfl, Nat.le_of_ble_eq_true rfl⟩ (fun E hE => ?_) (fun ur_13 hr_13 => ?_)
      · skip
        have hK9 : ¬ (fr_k 1 400 re) = 0 := by rw [hE.2]; decide
        exact g_xout B hT hA9 (Nat.le_of_ble_eq_true rfl) (Nat.le_of_ble_eq_true rfl) (Or.inr ⟨hE.1, (by first | exact hE.2 | (simp only [k_env, if_pos b_1, te_3, if_pos kr_10, if_pos kr_11, if_pos kr_12, if_neg hK9]; done) | (simp only [k_env, if_pos b_1, te_3, if_pos kr_10, if_pos kr_11, if_pos kr_12, if_neg hK9]; rfl) | rfl)⟩) [0, 1, 2, 3, 4, 5, 6] rfl rfl
      have kr_13 : (fr_k 1 400 re) = 0 := hr_13
      refine g_aload B 0 dX1_setEnvelope_41 rfl ?_
      refine g_getN (C := RX3) (T := TX3) (N := 12) B 2 4 6 (.int ((ig 1) 6)) in_X3 rfl q160 rfl (Nat.le_of_ble_eq_true rfl) (fun _ h9 => h9) rfl dX1_setEnvelope_43 ?_
      refine g_istore B [(7, .int ((ig 1) 6)), (6, .ref (ad 5)), (0, .ref (ad 0)), (1, .int 1), (2, .int a), (3, .int de), (4, .int u), (5, .int re)] dX1_setEnvelope_46 (Nat.le_of_ble_eq_true rfl) rfl ?_
      refine g_aload B 1 dX1_setEnvelope_48 rfl ?_
      refine g_iload_n B 2 4 dX1_setEnvelope_50 rfl rfl ?_
      refine g_putN (C := RX3) (T := TX3) (N := 12) (ty := .int) (v := .int a) B 2 4 4 [((ad 0), cM ad e0 mi lo su), ((ad 2), cA (ad 3) al4), ((ad 3), .inl (g.2.2.1, 10, .inr (.inr (.inr (.inr (iq ad)))))), ((ad 4), cI (ig 0)), ((ad 5), cI (upd (ig 1) 4 a)), ((ad 6), cI (ig 2)), ((ad 7), cI (ig 3))] in_X3 tyX3 tyX3_ok nmX3 rfl q154 rfl (Nat.le_of_ble_eq_true rfl) (fun _ h9 => h9) rfl rfl rfl rfl (Nat.le_of_ble_eq_true rfl) rfl dX1_setEnvelope_51 ?_
      refine g_aload B 1 dX1_setEnvelope_54 rfl ?_
      refine g_iload_n B 3 5 dX1_setEnvelope_56 rfl rfl ?_
      refine g_putN (C := RX3) (T := TX3) (N := 12) (ty := .int) (v := .int de) B 2 4 5 [((ad 0), cM ad e0 mi lo su), ((ad 2), cA (ad 3) al4), ((ad 3), .inl (g.2.2.1, 10, .inr (.inr (.inr (.inr (iq ad)))))), ((ad 4), cI (ig 0)), ((ad 5), cI (upd (upd (ig 1) 4 a) 5 de)), ((ad 6), cI (ig 2)), ((ad 7), cI (ig 3))] in_X3 tyX3 tyX3_ok nmX3 rfl q157 rfl (Nat.le_of_ble_eq_true rfl) (fun _ h9 => h9) rfl rfl rfl rfl (Nat.le_of_ble_eq_true rfl) rfl dX1_setEnvelope_57 ?_
      refine g_aload B 1 dX1_setEnvelope_60 rfl ?_
      refine g_iload B 6 dX1_setEnvelope_62 rfl ?_
      refine g_putN (C := RX3) (T := TX3) (N := 12) (ty := .int) (v := .int u) B 2 4 6 [((ad 0), cM ad e0 mi lo su), ((ad 2), cA (ad 3) al4), ((ad 3), .inl (g.2.2.1, 10, .inr (.inr (.inr (.inr (iq ad)))))), ((ad 4), cI (ig 0)), ((ad 5), cI (upd (upd (upd (ig 1) 4 a) 5 de) 6 u)), ((ad 6), cI (ig 2)), ((ad 7), cI (ig 3))] in_X3 tyX3 tyX3_ok nmX3 rfl q160 rfl (Nat.le_of_ble_eq_true rfl) (fun _ h9 => h9) rfl rfl rfl rfl (Nat.le_of_ble_eq_true rfl) rfl dX1_setEnvelope_64 ?_
      refine g_aload B 1 dX1_setEnvelope_67 rfl ?_
      refine g_iload B 7 dX1_setEnvelope_69 rfl ?_
      refine g_putN (C := RX3) (T := TX3) (N := 12) (ty := .int) (v := .int re) B 2 4 7 [((ad 0), cM ad e0 mi lo su), ((ad 2), cA (ad 3) al4), ((ad 3), .inl (g.2.2.1, 10, .inr (.inr (.inr (.inr (iq ad)))))), ((ad 4), cI (ig 0)), ((ad 5), cI (upd (upd (upd (upd (ig 1) 4 a) 5 de) 6 u) 7 re)), ((ad 6), cI (ig 2)), ((ad 7), cI (ig 3))] in_X3 tyX3 tyX3_ok nmX3 rfl q163 rfl (Nat.le_of_ble_eq_true rfl) (fun _ h9 => h9) rfl rfl rfl rfl (Nat.le_of_ble_eq_true rfl) rfl dX1_setEnvelope_71 ?_
      refine g_iload B 0 dX1_setEnvelope_74 rfl ?_
      exact g_xiret B hr dX1_setEnvelope_76 (Nat.le_of_ble_eq_true rfl) (Nat.le_of_ble_eq_true rfl) () ⟨(by first | (simp only [k_env, if_pos b_1, te_3, if_pos kr_10, if_pos kr_11, if_pos kr_12, if_pos kr_13]; done) | (simp only [k_env, if_pos b_1, te_3, if_pos kr_10, if_pos kr_11, if_pos kr_12, if_pos kr_13]; rfl) | rfl), (by first | (simp only [if_pos b_1, te_3, if_pos kr_10, if_pos kr_11, if_pos kr_12, if_pos kr_13]; done) | (simp only [if_pos b_1, te_3, if_pos kr_10, if_pos kr_11, if_pos kr_12, if_pos kr_13]; rfl) | rfl)⟩ [0, 1, 2, 3, 4, 5, 6] rfl (by first | (simp only [if_pos b_1, te_3, if_pos kr_10, if_pos kr_11, if_pos kr_12, if_pos kr_13]; rfl) | rfl | (rw [e_3]; rfl))
    · skip
      replace e_3 : i = 2 := e_3
      have te_3 : i.toNatClampNeg = 2 := by rw [e_3]; decide
      refine g_lvq (lv' := [(0, .ref (ad 0)), (1, .int 2), (2, .int a), (3, .int de), (4, .int u), (5, .int re)]) (by rw [e_3]) ?_
      refine g_aload_n B 0 0 dX1_setEnvelope_0 rfl rfl ?_
      refine g_iload_n B 1 1 dX1_setEnvelope_1 rfl rfl ?_
      refine g_cuV_q (C := RX1) (T := TX1) (N := 17) (As := [.int 2]) B (m_X1_instrument l hst g ad e0 mi lo su 2 2 (by decide) (by decide) (ig 2)) 0 0 rfl rfl [0, 1, 2, 5] [] (lw_V q764 q766 qs14 q26 q767) nvX1_instrument rfl rfl rfl rfl (Nat.le_of_ble_eq_true rfl) dX1_setEnvelope_2 ⟨Nat.le_of_ble_eq_true rfl, Nat.le_of_ble_eq_true rfl⟩ ⟨Nat.le_of_ble_eq_true rfl, Nat.le_of_ble_eq_true rfl⟩ (fun r_14 ur_14 hr_14 => ?_)
      obtain rfl : some (ad 6) = r_14 := (hr_14).symm
      refine g_eqs (st' := [.ref (ad 6)]) rfl ?_
      refine g_astore B [(6, .ref (ad 6)), (0, .ref (ad 0)), (1, .int 2), (2, .int a), (3, .int de), (4, .int u), (5, .int re)] dX1_setEnvelope_5 (Nat.le_of_ble_eq_true rfl) rfl ?_
      refine g_iconst (v := 1) B dX1_setEnvelope_7 kc_1 ?_
      refine g_sipush (v := 400) B dX1_setEnvelope_8 ks_400 ?_
      refine g_iload_n B 2 3 dX1_setEnvelope_11 rfl rfl ?_
      refine g_xuS_v (As := [.int 1, .int 400, .int a]) B (m_X1_requireFrom l hst g 1 400 a) [] [] (lw_S q580 q581 q26 q582) nsX1_requireFrom rfl rfl rfl rfl (Nat.le_of_ble_eq_true rfl) dX1_setEnvelope_12 ⟨Nat.le_of_ble_eq_true rfl, Nat.le_of_ble_eq_true rfl⟩ ⟨Nat.le_of_ble_eq_true rfl, Nat.le_of_ble_eq_true rfl⟩ (fun E hE => ?_) (fun ur_15 hr_15 => ?_)
      · skip
        have hK9 : ¬ (fr_k 1 400 a) = 0 := by rw [hE.2]; decide
        exact g_xout B hT hA9 (Nat.le_of_ble_eq_true rfl) (Nat.le_of_ble_eq_true rfl) (Or.inr ⟨hE.1, (by first | exact hE.2 | (simp only [k_env, if_pos b_1, te_3, if_neg hK9]; done) | (simp only [k_env, if_pos b_1, te_3, if_neg hK9]; rfl) | rfl)⟩) [0, 1, 2, 3, 4, 5, 6] rfl rfl
      have kr_15 : (fr_k 1 400 a) = 0 := hr_15
      refine g_iconst (v := 1) B dX1_setEnvelope_15 kc_1 ?_
      refine g_sipush (v := 400) B dX1_setEnvelope_16 ks_400 ?_
      refine g_iload_n B 3 4 dX1_setEnvelope_19 rfl rfl ?_
      refine g_xuS_v (As := [.int 1, .int 400, .int de]) B (m_X1_requireFrom l hst g 1 400 de) [] [] (lw_S q580 q581 q26 q582) nsX1_requireFrom rfl rfl rfl rfl (Nat.le_of_ble_eq_true rfl) dX1_setEnvelope_20 ⟨Nat.le_of_ble_eq_true rfl, Nat.le_of_ble_eq_true rfl⟩ ⟨Nat.le_of_ble_eq_true rfl, Nat.le_of_ble_eq_true rfl⟩ (fun E hE => ?_) (fun ur_16 hr_16 => ?_)
      · skip
        have hK9 : ¬ (fr_k 1 400 de) = 0 := by rw [hE.2]; decide
        exact g_xout B hT hA9 (Nat.le_of_ble_eq_true rfl) (Nat.le_of_ble_eq_true rfl) (Or.inr ⟨hE.1, (by first | exact hE.2 | (simp only [k_env, if_pos b_1, te_3, if_pos kr_15, if_neg hK9]; done) | (simp only [k_env, if_pos b_1, te_3, if_pos kr_15, if_neg hK9]; rfl) | rfl)⟩) [0, 1, 2, 3, 4, 5, 6] rfl rfl
      have kr_16 : (fr_k 1 400 de) = 0 := hr_16
      refine g_iconst (v := 0) B dX1_setEnvelope_23 kc_0 ?_
      refine g_sipush (v := 1000) B dX1_setEnvelope_24 ks_1000 ?_
      refine g_iload B 5 dX1_setEnvelope_27 rfl ?_
      refine g_xuS_v (As := [.int 0, .int 1000, .int u]) B (m_X1_requireFrom l hst g 0 1000 u) [] [] (lw_S q580 q581 q26 q582) nsX1_requireFrom rfl rfl rfl rfl (Nat.le_of_ble_eq_true rfl) dX1_setEnvelope_29 ⟨Nat.le_of_ble_eq_true rfl, Nat.le_of_ble_eq_true rfl⟩ ⟨Nat.le_of_ble_eq_true rfl, Nat.le_of_ble_eq_true rfl⟩ (fun E hE => ?_) (fun ur_17 hr_17 => ?_)
      · skip
        have hK9 : ¬ (fr_k 0 1000 u) = 0 := by rw [hE.2]; decide
        exact g_xout B hT hA9 (Nat.le_of_ble_eq_true rfl) (Nat.le_of_ble_eq_true rfl) (Or.inr ⟨hE.1, (by first | exact hE.2 | (simp only [k_env, if_pos b_1, te_3, if_pos kr_15, if_pos kr_16, if_neg hK9]; done) | (simp only [k_env, if_pos b_1, te_3, if_pos kr_15, if_pos kr_16, if_neg hK9]; rfl) | rfl)⟩) [0, 1, 2, 3, 4, 5, 6] rfl rfl
      have kr_17 : (fr_k 0 1000 u) = 0 := hr_17
      refine g_iconst (v := 1) B dX1_setEnvelope_32 kc_1 ?_
      refine g_sipush (v := 400) B dX1_setEnvelope_33 ks_400 ?_
      refine g_iload B 6 dX1_setEnvelope_36 rfl ?_
      refine g_xuS_v (As := [.int 1, .int 400, .int re]) B (m_X1_requireFrom l hst g 1 400 re) [] [] (lw_S q580 q581 q26 q582) nsX1_requireFrom rfl rfl rfl rfl (Nat.le_of_ble_eq_true rfl) dX1_setEnvelope_38 ⟨Nat.le_of_ble_eq_true rfl, Nat.le_of_ble_eq_true rfl⟩ ⟨Nat.le_of_ble_eq_true rfl, Nat.le_of_ble_eq_true rfl⟩ (fun E hE => ?_) (fun ur_18 hr_18 => ?_)
      · skip
        have hK9 : ¬ (fr_k 1 400 re) = 0 := by rw [hE.2]; decide
        exact g_xout B hT hA9 (Nat.le_of_ble_eq_true rfl) (Nat.le_of_ble_eq_true rfl) (Or.inr ⟨hE.1, (by first | exact hE.2 | (simp only [k_env, if_pos b_1, te_3, if_pos kr_15, if_pos kr_16, if_pos kr_17, if_neg hK9]; done) | (simp only [k_env, if_pos b_1, te_3, if_pos kr_15, if_pos kr_16, if_pos kr_17, if_neg hK9]; rfl) | rfl)⟩) [0, 1, 2, 3, 4, 5, 6] rfl rfl
      have kr_18 : (fr_k 1 400 re) = 0 := hr_18
      refine g_aload B 0 dX1_setEnvelope_41 rfl ?_
      refine g_getN (C := RX3) (T := TX3) (N := 12) B 2 5 6 (.int ((ig 2) 6)) in_X3 rfl q160 rfl (Nat.le_of_ble_eq_true rfl) (fun _ h9 => h9) rfl dX1_setEnvelope_43 ?_
      refine g_istore B [(7, .int ((ig 2) 6)), (6, .ref (ad 6)), (0, .ref (ad 0)), (1, .int 2), (2, .int a), (3, .int de), (4, .int u), (5, .int re)] dX1_setEnvelope_46 (Nat.le_of_ble_eq_true rfl) rfl ?_
      refine g_aload B 1 dX1_setEnvelope_48 rfl ?_
      refine g_iload_n B 2 4 dX1_setEnvelope_50 rfl rfl ?_
      refine g_putN (C := RX3) (T := TX3) (N := 12) (ty := .int) (v := .int a) B 2 5 4 [((ad 0), cM ad e0 mi lo su), ((ad 2), cA (ad 3) al4), ((ad 3), .inl (g.2.2.1, 10, .inr (.inr (.inr (.inr (iq ad)))))), ((ad 4), cI (ig 0)), ((ad 5), cI (ig 1)), ((ad 6), cI (upd (ig 2) 4 a)), ((ad 7), cI (ig 3))] in_X3 tyX3 tyX3_ok nmX3 rfl q154 rfl (Nat.le_of_ble_eq_true rfl) (fun _ h9 => h9) rfl rfl rfl rfl (Nat.le_of_ble_eq_true rfl) rfl dX1_setEnvelope_51 ?_
      refine g_aload B 1 dX1_setEnvelope_54 rfl ?_
      refine g_iload_n B 3 5 dX1_setEnvelope_56 rfl rfl ?_
      refine g_putN (C := RX3) (T := TX3) (N := 12) (ty := .int) (v := .int de) B 2 5 5 [((ad 0), cM ad e0 mi lo su), ((ad 2), cA (ad 3) al4), ((ad 3), .inl (g.2.2.1, 10, .inr (.inr (.inr (.inr (iq ad)))))), ((ad 4), cI (ig 0)), ((ad 5), cI (ig 1)), ((ad 6), cI (upd (upd (ig 2) 4 a) 5 de)), ((ad 7), cI (ig 3))] in_X3 tyX3 tyX3_ok nmX3 rfl q157 rfl (Nat.le_of_ble_eq_true rfl) (fun _ h9 => h9) rfl rfl rfl rfl (Nat.le_of_ble_eq_true rfl) rfl dX1_setEnvelope_57 ?_
      refine g_aload B 1 dX1_setEnvelope_60 rfl ?_
      refine g_iload B 6 dX1_setEnvelope_62 rfl ?_
      refine g_putN (C := RX3) (T := TX3) (N := 12) (ty := .int) (v := .int u) B 2 5 6 [((ad 0), cM ad e0 mi lo su), ((ad 2), cA (ad 3) al4), ((ad 3), .inl (g.2.2.1, 10, .inr (.inr (.inr (.inr (iq ad)))))), ((ad 4), cI (ig 0)), ((ad 5), cI (ig 1)), ((ad 6), cI (upd (upd (upd (ig 2) 4 a) 5 de) 6 u)), ((ad 7), cI (ig 3))] in_X3 tyX3 tyX3_ok nmX3 rfl q160 rfl (Nat.le_of_ble_eq_true rfl) (fun _ h9 => h9) rfl rfl rfl rfl (Nat.le_of_ble_eq_true rfl) rfl dX1_setEnvelope_64 ?_
      refine g_aload B 1 dX1_setEnvelope_67 rfl ?_
      refine g_iload B 7 dX1_setEnvelope_69 rfl ?_
      refine g_putN (C := RX3) (T := TX3) (N := 12) (ty := .int) (v := .int re) B 2 5 7 [((ad 0), cM ad e0 mi lo su), ((ad 2), cA (ad 3) al4), ((ad 3), .inl (g.2.2.1, 10, .inr (.inr (.inr (.inr (iq ad)))))), ((ad 4), cI (ig 0)), ((ad 5), cI (ig 1)), ((ad 6), cI (upd (upd (upd (upd (ig 2) 4 a) 5 de) 6 u) 7 re)), ((ad 7), cI (ig 3))] in_X3 tyX3 tyX3_ok nmX3 rfl q163 rfl (Nat.le_of_ble_eq_true rfl) (fun _ h9 => h9) rfl rfl rfl rfl (Nat.le_of_ble_eq_true rfl) rfl dX1_setEnvelope_71 ?_
      refine g_iload B 0 dX1_setEnvelope_74 rfl ?_
      exact g_xiret B hr dX1_setEnvelope_76 (Nat.le_of_ble_eq_true rfl) (Nat.le_of_ble_eq_true rfl) () ⟨(by first | (simp only [k_env, if_pos b_1, te_3, if_pos kr_15, if_pos kr_16, if_pos kr_17, if_pos kr_18]; done) | (simp only [k_env, if_pos b_1, te_3, if_pos kr_15, if_pos kr_16, if_pos kr_17, if_pos kr_18]; rfl) | rfl), (by first | (simp only [if_pos b_1, te_3, if_pos kr_15, if_pos kr_16, if_pos kr_17, if_pos kr_18]; done) | (simp only [if_pos b_1, te_3, if_pos kr_15, if_pos kr_16, if_pos kr_17, if_pos kr_18]; rfl) | rfl)⟩ [0, 1, 2, 3, 4, 5, 6] rfl (by first | (simp only [if_pos b_1, te_3, if_pos kr_15, if_pos kr_16, if_pos kr_17, if_pos kr_18]; rfl) | rfl | (rw [e_3]; rfl))
    · skip
      replace e_3 : i = 3 := e_3
      have te_3 : i.toNatClampNeg = 3 := by rw [e_3]; decide
      refine g_lvq (lv' := [(0, .ref (ad 0)), (1, .int 3), (2, .int a), (3, .int de), (4, .int u), (5, .int re)]) (by rw [e_3]) ?_
      refine g_aload_n B 0 0 dX1_setEnvelope_0 rfl rfl ?_
      refine g_iload_n B 1 1 dX1_setEnvelope_1 rfl rfl ?_
      refine g_cuV_q (C := RX1) (T := TX1) (N := 17) (As := [.int 3]) B (m_X1_instrument l hst g ad e0 mi lo su 3 3 (by decide) (by decide) (ig 3)) 0 0 rfl rfl [0, 1, 2, 6] [] (lw_V q764 q766 qs14 q26 q767) nvX1_instrument rfl rfl rfl rfl (Nat.le_of_ble_eq_true rfl) dX1_setEnvelope_2 ⟨Nat.le_of_ble_eq_true rfl, Nat.le_of_ble_eq_true rfl⟩ ⟨Nat.le_of_ble_eq_true rfl, Nat.le_of_ble_eq_true rfl⟩ (fun r_19 ur_19 hr_19 => ?_)
      obtain rfl : some (ad 7) = r_19 := (hr_19).symm
      refine g_eqs (st' := [.ref (ad 7)]) rfl ?_
      refine g_astore B [(6, .ref (ad 7)), (0, .ref (ad 0)), (1, .int 3), (2, .int a), (3, .int de), (4, .int u), (5, .int re)] dX1_setEnvelope_5 (Nat.le_of_ble_eq_true rfl) rfl ?_
      refine g_iconst (v := 1) B dX1_setEnvelope_7 kc_1 ?_
      refine g_sipush (v := 400) B dX1_setEnvelope_8 ks_400 ?_
      refine g_iload_n B 2 3 dX1_setEnvelope_11 rfl rfl ?_
      refine g_xuS_v (As := [.int 1, .int 400, .int a]) B (m_X1_requireFrom l hst g 1 400 a) [] [] (lw_S q580 q581 q26 q582) nsX1_requireFrom rfl rfl rfl rfl (Nat.le_of_ble_eq_true rfl) dX1_setEnvelope_12 ⟨Nat.le_of_ble_eq_true rfl, Nat.le_of_ble_eq_true rfl⟩ ⟨Nat.le_of_ble_eq_true rfl, Nat.le_of_ble_eq_true rfl⟩ (fun E hE => ?_) (fun ur_20 hr_20 => ?_)
      · skip
        have hK9 : ¬ (fr_k 1 400 a) = 0 := by rw [hE.2]; decide
        exact g_xout B hT hA9 (Nat.le_of_ble_eq_true rfl) (Nat.le_of_ble_eq_true rfl) (Or.inr ⟨hE.1, (by first | exact hE.2 | (simp only [k_env, if_pos b_1, te_3, if_neg hK9]; done) | (simp only [k_env, if_pos b_1, te_3, if_neg hK9]; rfl) | rfl)⟩) [0, 1, 2, 3, 4, 5, 6] rfl rfl
      have kr_20 : (fr_k 1 400 a) = 0 := hr_20
      refine g_iconst (v := 1) B dX1_setEnvelope_15 kc_1 ?_
      refine g_sipush (v := 400) B dX1_setEnvelope_16 ks_400 ?_
      refine g_iload_n B 3 4 dX1_setEnvelope_19 rfl rfl ?_
      refine g_xuS_v (As := [.int 1, .int 400, .int de]) B (m_X1_requireFrom l hst g 1 400 de) [] [] (lw_S q580 q581 q26 q582) nsX1_requireFrom rfl rfl rfl rfl (Nat.le_of_ble_eq_true rfl) dX1_setEnvelope_20 ⟨Nat.le_of_ble_eq_true rfl, Nat.le_of_ble_eq_true rfl⟩ ⟨Nat.le_of_ble_eq_true rfl, Nat.le_of_ble_eq_true rfl⟩ (fun E hE => ?_) (fun ur_21 hr_21 => ?_)
      · skip
        have hK9 : ¬ (fr_k 1 400 de) = 0 := by rw [hE.2]; decide
        exact g_xout B hT hA9 (Nat.le_of_ble_eq_true rfl) (Nat.le_of_ble_eq_true rfl) (Or.inr ⟨hE.1, (by first | exact hE.2 | (simp only [k_env, if_pos b_1, te_3, if_pos kr_20, if_neg hK9]; done) | (simp only [k_env, if_pos b_1, te_3, if_pos kr_20, if_neg hK9]; rfl) | rfl)⟩) [0, 1, 2, 3, 4, 5, 6] rfl rfl
      have kr_21 : (fr_k 1 400 de) = 0 := hr_21
      refine g_iconst (v := 0) B dX1_setEnvelope_23 kc_0 ?_
      refine g_sipush (v := 1000) B dX1_setEnvelope_24 ks_1000 ?_
      refine g_iload B 5 dX1_setEnvelope_27 rfl ?_
      refine g_xuS_v (As := [.int 0, .int 1000, .int u]) B (m_X1_requireFrom l hst g 0 1000 u) [] [] (lw_S q580 q581 q26 q582) nsX1_requireFrom rfl rfl rfl rfl (Nat.le_of_ble_eq_true rfl) dX1_setEnvelope_29 ⟨Nat.le_of_ble_eq_true rfl, Nat.le_of_ble_eq_true rfl⟩ ⟨Nat.le_of_ble_eq_true rfl, Nat.le_of_ble_eq_true rfl⟩ (fun E hE => ?_) (fun ur_22 hr_22 => ?_)
      · skip
        have hK9 : ¬ (fr_k 0 1000 u) = 0 := by rw [hE.2]; decide
        exact g_xout B hT hA9 (Nat.le_of_ble_eq_true rfl) (Nat.le_of_ble_eq_true rfl) (Or.inr ⟨hE.1, (by first | exact hE.2 | (simp only [k_env, if_pos b_1, te_3, if_pos kr_20, if_pos kr_21, if_neg hK9]; done) | (simp only [k_env, if_pos b_1, te_3, if_pos kr_20, if_pos kr_21, if_neg hK9]; rfl) | rfl)⟩) [0, 1, 2, 3, 4, 5, 6] rfl rfl
      have kr_22 : (fr_k 0 1000 u) = 0 := hr_22
      refine g_iconst (v := 1) B dX1_setEnvelope_32 kc_1 ?_
      refine g_sipush (v := 400) B dX1_setEnvelope_33 ks_400 ?_
      refine g_iload B 6 dX1_setEnvelope_36 rfl ?_
      refine g_xuS_v (As := [.int 1, .int 400, .int re]) B (m_X1_requireFrom l hst g 1 400 re) [] [] (lw_S q580 q581 q26 q582) nsX1_requireFrom rfl rfl rfl rfl (Nat.le_of_ble_eq_true rfl) dX1_setEnvelope_38 ⟨Nat.le_of_ble_eq_true rfl, Nat.le_of_ble_eq_true rfl⟩ ⟨Nat.le_of_ble_eq_true rfl, Nat.le_of_ble_eq_true rfl⟩ (fun E hE => ?_) (fun ur_23 hr_23 => ?_)
      · skip
        have hK9 : ¬ (fr_k 1 400 re) = 0 := by rw [hE.2]; decide
        exact g_xout B hT hA9 (Nat.le_of_ble_eq_true rfl) (Nat.le_of_ble_eq_true rfl) (Or.inr ⟨hE.1, (by first | exact hE.2 | (simp only [k_env, if_pos b_1, te_3, if_pos kr_20, if_pos kr_21, if_pos kr_22, if_neg hK9]; done) | (simp only [k_env, if_pos b_1, te_3, if_pos kr_20, if_pos kr_21, if_pos kr_22, if_neg hK9]; rfl) | rfl)⟩) [0, 1, 2, 3, 4, 5, 6] rfl rfl
      have kr_23 : (fr_k 1 400 re) = 0 := hr_23
      refine g_aload B 0 dX1_setEnvelope_41 rfl ?_
      refine g_getN (C := RX3) (T := TX3) (N := 12) B 2 6 6 (.int ((ig 3) 6)) in_X3 rfl q160 rfl (Nat.le_of_ble_eq_true rfl) (fun _ h9 => h9) rfl dX1_setEnvelope_43 ?_
      refine g_istore B [(7, .int ((ig 3) 6)), (6, .ref (ad 7)), (0, .ref (ad 0)), (1, .int 3), (2, .int a), (3, .int de), (4, .int u), (5, .int re)] dX1_setEnvelope_46 (Nat.le_of_ble_eq_true rfl) rfl ?_
      refine g_aload B 1 dX1_setEnvelope_48 rfl ?_
      refine g_iload_n B 2 4 dX1_setEnvelope_50 rfl rfl ?_
      refine g_putN (C := RX3) (T := TX3) (N := 12) (ty := .int) (v := .int a) B 2 6 4 [((ad 0), cM ad e0 mi lo su), ((ad 2), cA (ad 3) al4), ((ad 3), .inl (g.2.2.1, 10, .inr (.inr (.inr (.inr (iq ad)))))), ((ad 4), cI (ig 0)), ((ad 5), cI (ig 1)), ((ad 6), cI (ig 2)), ((ad 7), cI (upd (ig 3) 4 a))] in_X3 tyX3 tyX3_ok nmX3 rfl q154 rfl (Nat.le_of_ble_eq_true rfl) (fun _ h9 => h9) rfl rfl rfl rfl (Nat.le_of_ble_eq_true rfl) rfl dX1_setEnvelope_51 ?_
      refine g_aload B 1 dX1_setEnvelope_54 rfl ?_
      refine g_iload_n B 3 5 dX1_setEnvelope_56 rfl rfl ?_
      refine g_putN (C := RX3) (T := TX3) (N := 12) (ty := .int) (v := .int de) B 2 6 5 [((ad 0), cM ad e0 mi lo su), ((ad 2), cA (ad 3) al4), ((ad 3), .inl (g.2.2.1, 10, .inr (.inr (.inr (.inr (iq ad)))))), ((ad 4), cI (ig 0)), ((ad 5), cI (ig 1)), ((ad 6), cI (ig 2)), ((ad 7), cI (upd (upd (ig 3) 4 a) 5 de))] in_X3 tyX3 tyX3_ok nmX3 rfl q157 rfl (Nat.le_of_ble_eq_true rfl) (fun _ h9 => h9) rfl rfl rfl rfl (Nat.le_of_ble_eq_true rfl) rfl dX1_setEnvelope_57 ?_
      refine g_aload B 1 dX1_setEnvelope_60 rfl ?_
      refine g_iload B 6 dX1_setEnvelope_62 rfl ?_
      refine g_putN (C := RX3) (T := TX3) (N := 12) (ty := .int) (v := .int u) B 2 6 6 [((ad 0), cM ad e0 mi lo su), ((ad 2), cA (ad 3) al4), ((ad 3), .inl (g.2.2.1, 10, .inr (.inr (.inr (.inr (iq ad)))))), ((ad 4), cI (ig 0)), ((ad 5), cI (ig 1)), ((ad 6), cI (ig 2)), ((ad 7), cI (upd (upd (upd (ig 3) 4 a) 5 de) 6 u))] in_X3 tyX3 tyX3_ok nmX3 rfl q160 rfl (Nat.le_of_ble_eq_true rfl) (fun _ h9 => h9) rfl rfl rfl rfl (Nat.le_of_ble_eq_true rfl) rfl dX1_setEnvelope_64 ?_
      refine g_aload B 1 dX1_setEnvelope_67 rfl ?_
      refine g_iload B 7 dX1_setEnvelope_69 rfl ?_
      refine g_putN (C := RX3) (T := TX3) (N := 12) (ty := .int) (v := .int re) B 2 6 7 [((ad 0), cM ad e0 mi lo su), ((ad 2), cA (ad 3) al4), ((ad 3), .inl (g.2.2.1, 10, .inr (.inr (.inr (.inr (iq ad)))))), ((ad 4), cI (ig 0)), ((ad 5), cI (ig 1)), ((ad 6), cI (ig 2)), ((ad 7), cI (upd (upd (upd (upd (ig 3) 4 a) 5 de) 6 u) 7 re))] in_X3 tyX3 tyX3_ok nmX3 rfl q163 rfl (Nat.le_of_ble_eq_true rfl) (fun _ h9 => h9) rfl rfl rfl rfl (Nat.le_of_ble_eq_true rfl) rfl dX1_setEnvelope_71 ?_
      refine g_iload B 0 dX1_setEnvelope_74 rfl ?_
      exact g_xiret B hr dX1_setEnvelope_76 (Nat.le_of_ble_eq_true rfl) (Nat.le_of_ble_eq_true rfl) () ⟨(by first | (simp only [k_env, if_pos b_1, te_3, if_pos kr_20, if_pos kr_21, if_pos kr_22, if_pos kr_23]; done) | (simp only [k_env, if_pos b_1, te_3, if_pos kr_20, if_pos kr_21, if_pos kr_22, if_pos kr_23]; rfl) | rfl), (by first | (simp only [if_pos b_1, te_3, if_pos kr_20, if_pos kr_21, if_pos kr_22, if_pos kr_23]; done) | (simp only [if_pos b_1, te_3, if_pos kr_20, if_pos kr_21, if_pos kr_22, if_pos kr_23]; rfl) | rfl)⟩ [0, 1, 2, 3, 4, 5, 6] rfl (by first | (simp only [if_pos b_1, te_3, if_pos kr_20, if_pos kr_21, if_pos kr_22, if_pos kr_23]; rfl) | rfl | (rw [e_3]; rfl))
  · skip
    refine g_aload_n B 0 0 dX1_setEnvelope_0 rfl rfl ?_
    refine g_iload_n B 1 1 dX1_setEnvelope_1 rfl rfl ?_
    refine g_xuV_q (C := RX1) (T := TX1) (N := 17) (As := [.int i]) B (m_X1_instrument_b l hst g ad e0 mi lo su i b_1) 0 0 rfl rfl [0] [] (lw_V q764 q766 qs14 q26 q767) nvX1_instrument rfl rfl rfl rfl (Nat.le_of_ble_eq_true rfl) dX1_setEnvelope_2 ⟨Nat.le_of_ble_eq_true rfl, Nat.le_of_ble_eq_true rfl⟩ ⟨Nat.le_of_ble_eq_true rfl, Nat.le_of_ble_eq_true rfl⟩ (fun E hE => ?_) (fun r_24 ur_24 hr_24 => ?_)
    · skip
      have hK9 : ¬ (ix_k i 4) = 0 := by rw [hE.2]; decide
      exact g_xout B hT hA9 (Nat.le_of_ble_eq_true rfl) (Nat.le_of_ble_eq_true rfl) (Or.inl ⟨hE.1, (by first | exact hE.2 | (simp only [k_env, if_neg b_1, if_neg hK9]; done) | (simp only [k_env, if_neg b_1, if_neg hK9]; rfl) | rfl)⟩) [0, 1, 2, 3, 4, 5, 6] rfl rfl
    have kr_24 : (ix_k i 4) = 0 := hr_24.1
    replace hr_24 := hr_24.2
    exact absurd kr_24 b_1

set_option maxHeartbeats 4000000 in
set_option maxRecDepth 100000 in
theorem m_X1_setFilter (l : Launch) (hst : l.stackTraces = false) (g : gG) (ad : Nat → Nat) (e0 : Nat) (mi : Nat → Int32) (lo su : Int64) (ig : Nat → Nat → Int32) (i cu da : Int32) : gXi l yX1_setFilter cX1_setFilter 6 .int 8 131 8 48 g [((ad 0), cM ad e0 mi lo su), ((ad 2), cA (ad 3) al4), ((ad 3), .inl (g.2.2.1, 10, .inr (.inr (.inr (.inr (iq ad)))))), ((ad 4), cI (ig 0)), ((ad 5), cI (ig 1)), ((ad 6), cI (ig 2)), ((ad 7), cI (ig 3))] [.ref (ad 0), .int i, .int cu, .int da] (fun (r : Int32) (_ : Unit) => (k_filter i cu da) = 0 ∧ r = ig i.toNatClampNeg 8) (fun _ : Unit => [((ad 0), cM ad e0 mi lo su), ((ad 2), cA (ad 3) al4), ((ad 3), .inl (g.2.2.1, 10, .inr (.inr (.inr (.inr (iq ad)))))), ((ad 4), cI ((va_up ig i.toNatClampNeg (s_fil (ig i.toNatClampNeg) cu da)) 0)), ((ad 5), cI ((va_up ig i.toNatClampNeg (s_fil (ig i.toNatClampNeg) cu da)) 1)), ((ad 6), cI ((va_up ig i.toNatClampNeg (s_fil (ig i.toNatClampNeg) cu da)) 2)), ((ad 7), cI ((va_up ig i.toNatClampNeg (s_fil (ig i.toNatClampNeg) cu da)) 3))]) (fun E : String => (E = eIO ∧ (k_filter i cu da) = 1) ∨ (E = eIA ∧ (k_filter i cu da) = 2)) := by
  intro sz
  refine g_xent (by decide) hst [(0, .ref (ad 0)), (1, .int i), (2, .int cu), (3, .int da)] (Nat.le_of_ble_eq_true rfl) rfl ?_
  intro p e s m below meth c B hr hnm hsz hT
  have B : gB p l s m ([.ref (ad 0), .int i, .int cu, .int da] : List Value).toArray meth c RX1 cX1_setFilter 6 g (va_A [((ad 0), cM ad e0 mi lo su), ((ad 2), cA (ad 3) al4), ((ad 3), .inl (g.2.2.1, 10, .inr (.inr (.inr (.inr (iq ad)))))), ((ad 4), cI (ig 0)), ((ad 5), cI (ig 1)), ((ad 6), cI (ig 2)), ((ad 7), cI (ig 3))] sz) := B
  have hA9 : (va_A [((ad 0), cM ad e0 mi lo su), ((ad 2), cA (ad 3) al4), ((ad 3), .inl (g.2.2.1, 10, .inr (.inr (.inr (.inr (iq ad)))))), ((ad 4), cI (ig 0)), ((ad 5), cI (ig 1)), ((ad 6), cI (ig 2)), ((ad 7), cI (ig 3))] sz) = va_A [((ad 0), cM ad e0 mi lo su), ((ad 2), cA (ad 3) al4), ((ad 3), .inl (g.2.2.1, 10, .inr (.inr (.inr (.inr (iq ad)))))), ((ad 4), cI (ig 0)), ((ad 5), cI (ig 1)), ((ad 6), cI (ig 2)), ((ad 7), cI (ig 3))] s.heap.size := by rw [hsz]
  subst hsz
  by_cases b_1 : ix_k i 4 = 0
  · skip
    obtain ⟨q_2, hq_2, e_3⟩ := ix_nat (N := 4) b_1 (by decide) (by decide)
    rcases (show q_2 = 0 ∨ q_2 = 1 ∨ q_2 = 2 ∨ q_2 = 3 by omega) with rfl | rfl | rfl | rfl
    · skip
      replace e_3 : i = 0 := e_3
      have te_3 : i.toNatClampNeg = 0 := by rw [e_3]; decide
      refine g_lvq (lv' := [(0, .ref (ad 0)), (1, .int 0), (2, .int cu), (3, .int da)]) (by rw [e_3]) ?_
      refine g_aload_n B 0 0 dX1_setFilter_0 rfl rfl ?_
      refine g_iload_n B 1 1 dX1_setFilter_1 rfl rfl ?_
      refine g_cuV_q (C := RX1) (T := TX1) (N := 17) (As := [.int 0]) B (m_X1_instrument l hst g ad e0 mi lo su 0 0 (by decide) (by decide) (ig 0)) 0 0 rfl rfl [0, 1, 2, 3] [] (lw_V q764 q766 qs14 q26 q767) nvX1_instrument rfl rfl rfl rfl (Nat.le_of_ble_eq_true rfl) dX1_setFilter_2 ⟨Nat.le_of_ble_eq_true rfl, Nat.le_of_ble_eq_true rfl⟩ ⟨Nat.le_of_ble_eq_true rfl, Nat.le_of_ble_eq_true rfl⟩ (fun r_4 ur_4 hr_4 => ?_)
      obtain rfl : some (ad 4) = r_4 := (hr_4).symm
      refine g_eqs (st' := [.ref (ad 4)]) rfl ?_
      refine g_astore B [(4, .ref (ad 4)), (0, .ref (ad 0)), (1, .int 0), (2, .int cu), (3, .int da)] dX1_setFilter_5 (Nat.le_of_ble_eq_true rfl) rfl ?_
      refine g_iconst (v := 1) B dX1_setFilter_7 kc_1 ?_
      refine g_sipush (v := 128) B dX1_setFilter_8 ks_128 ?_
      refine g_iload_n B 2 3 dX1_setFilter_11 rfl rfl ?_
      refine g_xuS_v (As := [.int 1, .int 128, .int cu]) B (m_X1_requireFrom l hst g 1 128 cu) [] [] (lw_S q580 q581 q26 q582) nsX1_requireFrom rfl rfl rfl rfl (Nat.le_of_ble_eq_true rfl) dX1_setFilter_12 ⟨Nat.le_of_ble_eq_true rfl, Nat.le_of_ble_eq_true rfl⟩ ⟨Nat.le_of_ble_eq_true rfl, Nat.le_of_ble_eq_true rfl⟩ (fun E hE => ?_) (fun ur_5 hr_5 => ?_)
      · skip
        have hK9 : ¬ (fr_k 1 128 cu) = 0 := by rw [hE.2]; decide
        exact g_xout B hT hA9 (Nat.le_of_ble_eq_true rfl) (Nat.le_of_ble_eq_true rfl) (Or.inr ⟨hE.1, (by first | exact hE.2 | (simp only [k_filter, if_pos b_1, te_3, if_neg hK9]; done) | (simp only [k_filter, if_pos b_1, te_3, if_neg hK9]; rfl) | rfl)⟩) [0, 1, 2, 3, 4, 5, 6] rfl rfl
      have kr_5 : (fr_k 1 128 cu) = 0 := hr_5
      refine g_bipush (v := 16) B dX1_setFilter_15 kb_16 ?_
      refine g_sipush (v := 256) B dX1_setFilter_17 ks_256 ?_
      refine g_iload_n B 3 4 dX1_setFilter_20 rfl rfl ?_
      refine g_xuS_v (As := [.int 16, .int 256, .int da]) B (m_X1_requireFrom l hst g 16 256 da) [] [] (lw_S q580 q581 q26 q582) nsX1_requireFrom rfl rfl rfl rfl (Nat.le_of_ble_eq_true rfl) dX1_setFilter_21 ⟨Nat.le_of_ble_eq_true rfl, Nat.le_of_ble_eq_true rfl⟩ ⟨Nat.le_of_ble_eq_true rfl, Nat.le_of_ble_eq_true rfl⟩ (fun E hE => ?_) (fun ur_6 hr_6 => ?_)
      · skip
        have hK9 : ¬ (fr_k 16 256 da) = 0 := by rw [hE.2]; decide
        exact g_xout B hT hA9 (Nat.le_of_ble_eq_true rfl) (Nat.le_of_ble_eq_true rfl) (Or.inr ⟨hE.1, (by first | exact hE.2 | (simp only [k_filter, if_pos b_1, te_3, if_pos kr_5, if_neg hK9]; done) | (simp only [k_filter, if_pos b_1, te_3, if_pos kr_5, if_neg hK9]; rfl) | rfl)⟩) [0, 1, 2, 3, 4, 5, 6] rfl rfl
      have kr_6 : (fr_k 16 256 da) = 0 := hr_6
      refine g_aload B 0 dX1_setFilter_24 rfl ?_
      refine g_getN (C := RX3) (T := TX3) (N := 12) B 2 3 8 (.int ((ig 0) 8)) in_X3 rfl q166 rfl (Nat.le_of_ble_eq_true rfl) (fun _ h9 => h9) rfl dX1_setFilter_26 ?_
      refine g_istore B [(5, .int ((ig 0) 8)), (4, .ref (ad 4)), (0, .ref (ad 0)), (1, .int 0), (2, .int cu), (3, .int da)] dX1_setFilter_29 (Nat.le_of_ble_eq_true rfl) rfl ?_
      refine g_aload B 1 dX1_setFilter_31 rfl ?_
      refine g_iload_n B 2 4 dX1_setFilter_33 rfl rfl ?_
      refine g_putN (C := RX3) (T := TX3) (N := 12) (ty := .int) (v := .int cu) B 2 3 8 [((ad 0), cM ad e0 mi lo su), ((ad 2), cA (ad 3) al4), ((ad 3), .inl (g.2.2.1, 10, .inr (.inr (.inr (.inr (iq ad)))))), ((ad 4), cI (upd (ig 0) 8 cu)), ((ad 5), cI (ig 1)), ((ad 6), cI (ig 2)), ((ad 7), cI (ig 3))] in_X3 tyX3 tyX3_ok nmX3 rfl q166 rfl (Nat.le_of_ble_eq_true rfl) (fun _ h9 => h9) rfl rfl rfl rfl (Nat.le_of_ble_eq_true rfl) rfl dX1_setFilter_34 ?_
      refine g_aload B 1 dX1_setFilter_37 rfl ?_
      refine g_iload_n B 3 5 dX1_setFilter_39 rfl rfl ?_
      refine g_putN (C := RX3) (T := TX3) (N := 12) (ty := .int) (v := .int da) B 2 3 9 [((ad 0), cM ad e0 mi lo su), ((ad 2), cA (ad 3) al4), ((ad 3), .inl (g.2.2.1, 10, .inr (.inr (.inr (.inr (iq ad)))))), ((ad 4), cI (upd (upd (ig 0) 8 cu) 9 da)), ((ad 5), cI (ig 1)), ((ad 6), cI (ig 2)), ((ad 7), cI (ig 3))] in_X3 tyX3 tyX3_ok nmX3 rfl q169 rfl (Nat.le_of_ble_eq_true rfl) (fun _ h9 => h9) rfl rfl rfl rfl (Nat.le_of_ble_eq_true rfl) rfl dX1_setFilter_40 ?_
      refine g_iload B 0 dX1_setFilter_43 rfl ?_
      exact g_xiret B hr dX1_setFilter_45 (Nat.le_of_ble_eq_true rfl) (Nat.le_of_ble_eq_true rfl) () ⟨(by first | (simp only [k_filter, if_pos b_1, te_3, if_pos kr_5, if_pos kr_6]; done) | (simp only [k_filter, if_pos b_1, te_3, if_pos kr_5, if_pos kr_6]; rfl) | rfl), (by first | (simp only [if_pos b_1, te_3, if_pos kr_5, if_pos kr_6]; done) | (simp only [if_pos b_1, te_3, if_pos kr_5, if_pos kr_6]; rfl) | rfl)⟩ [0, 1, 2, 3, 4, 5, 6] rfl (by first | (simp only [if_pos b_1, te_3, if_pos kr_5, if_pos kr_6]; rfl) | rfl | (rw [e_3]; rfl))
    · skip
      replace e_3 : i = 1 := e_3
      have te_3 : i.toNatClampNeg = 1 := by rw [e_3]; decide
      refine g_lvq (lv' := [(0, .ref (ad 0)), (1, .int 1), (2, .int cu), (3, .int da)]) (by rw [e_3]) ?_
      refine g_aload_n B 0 0 dX1_setFilter_0 rfl rfl ?_
      refine g_iload_n B 1 1 dX1_setFilter_1 rfl rfl ?_
      refine g_cuV_q (C := RX1) (T := TX1) (N := 17) (As := [.int 1]) B (m_X1_instrument l hst g ad e0 mi lo su 1 1 (by decide) (by decide) (ig 1)) 0 0 rfl rfl [0, 1, 2, 4] [] (lw_V q764 q766 qs14 q26 q767) nvX1_instrument rfl rfl rfl rfl (Nat.le_of_ble_eq_true rfl) dX1_setFilter_2 ⟨Nat.le_of_ble_eq_true rfl, Nat.le_of_ble_eq_true rfl⟩ ⟨Nat.le_of_ble_eq_true rfl, Nat.le_of_ble_eq_true rfl⟩ (fun r_7 ur_7 hr_7 => ?_)
      obtain rfl : some (ad 5) = r_7 := (hr_7).symm
      refine g_eqs (st' := [.ref (ad 5)]) rfl ?_
      refine g_astore B [(4, .ref (ad 5)), (0, .ref (ad 0)), (1, .int 1), (2, .int cu), (3, .int da)] dX1_setFilter_5 (Nat.le_of_ble_eq_true rfl) rfl ?_
      refine g_iconst (v := 1) B dX1_setFilter_7 kc_1 ?_
      refine g_sipush (v := 128) B dX1_setFilter_8 ks_128 ?_
      refine g_iload_n B 2 3 dX1_setFilter_11 rfl rfl ?_
      refine g_xuS_v (As := [.int 1, .int 128, .int cu]) B (m_X1_requireFrom l hst g 1 128 cu) [] [] (lw_S q580 q581 q26 q582) nsX1_requireFrom rfl rfl rfl rfl (Nat.le_of_ble_eq_true rfl) dX1_setFilter_12 ⟨Nat.le_of_ble_eq_true rfl, Nat.le_of_ble_eq_true rfl⟩ ⟨Nat.le_of_ble_eq_true rfl, Nat.le_of_ble_eq_true rfl⟩ (fun E hE => ?_) (fun ur_8 hr_8 => ?_)
      · skip
        have hK9 : ¬ (fr_k 1 128 cu) = 0 := by rw [hE.2]; decide
        exact g_xout B hT hA9 (Nat.le_of_ble_eq_true rfl) (Nat.le_of_ble_eq_true rfl) (Or.inr ⟨hE.1, (by first | exact hE.2 | (simp only [k_filter, if_pos b_1, te_3, if_neg hK9]; done) | (simp only [k_filter, if_pos b_1, te_3, if_neg hK9]; rfl) | rfl)⟩) [0, 1, 2, 3, 4, 5, 6] rfl rfl
      have kr_8 : (fr_k 1 128 cu) = 0 := hr_8
      refine g_bipush (v := 16) B dX1_setFilter_15 kb_16 ?_
      refine g_sipush (v := 256) B dX1_setFilter_17 ks_256 ?_
      refine g_iload_n B 3 4 dX1_setFilter_20 rfl rfl ?_
      refine g_xuS_v (As := [.int 16, .int 256, .int da]) B (m_X1_requireFrom l hst g 16 256 da) [] [] (lw_S q580 q581 q26 q582) nsX1_requireFrom rfl rfl rfl rfl (Nat.le_of_ble_eq_true rfl) dX1_setFilter_21 ⟨Nat.le_of_ble_eq_true rfl, Nat.le_of_ble_eq_true rfl⟩ ⟨Nat.le_of_ble_eq_true rfl, Nat.le_of_ble_eq_true rfl⟩ (fun E hE => ?_) (fun ur_9 hr_9 => ?_)
      · skip
        have hK9 : ¬ (fr_k 16 256 da) = 0 := by rw [hE.2]; decide
        exact g_xout B hT hA9 (Nat.le_of_ble_eq_true rfl) (Nat.le_of_ble_eq_true rfl) (Or.inr ⟨hE.1, (by first | exact hE.2 | (simp only [k_filter, if_pos b_1, te_3, if_pos kr_8, if_neg hK9]; done) | (simp only [k_filter, if_pos b_1, te_3, if_pos kr_8, if_neg hK9]; rfl) | rfl)⟩) [0, 1, 2, 3, 4, 5, 6] rfl rfl
      have kr_9 : (fr_k 16 256 da) = 0 := hr_9
      refine g_aload B 0 dX1_setFilter_24 rfl ?_
      refine g_getN (C := RX3) (T := TX3) (N := 12) B 2 4 8 (.int ((ig 1) 8)) in_X3 rfl q166 rfl (Nat.le_of_ble_eq_true rfl) (fun _ h9 => h9) rfl dX1_setFilter_26 ?_
      refine g_istore B [(5, .int ((ig 1) 8)), (4, .ref (ad 5)), (0, .ref (ad 0)), (1, .int 1), (2, .int cu), (3, .int da)] dX1_setFilter_29 (Nat.le_of_ble_eq_true rfl) rfl ?_
      refine g_aload B 1 dX1_setFilter_31 rfl ?_
      refine g_iload_n B 2 4 dX1_setFilter_33 rfl rfl ?_
      refine g_putN (C := RX3) (T := TX3) (N := 12) (ty := .int) (v := .int cu) B 2 4 8 [((ad 0), cM ad e0 mi lo su), ((ad 2), cA (ad 3) al4), ((ad 3), .inl (g.2.2.1, 10, .inr (.inr (.inr (.inr (iq ad)))))), ((ad 4), cI (ig 0)), ((ad 5), cI (upd (ig 1) 8 cu)), ((ad 6), cI (ig 2)), ((ad 7), cI (ig 3))] in_X3 tyX3 tyX3_ok nmX3 rfl q166 rfl (Nat.le_of_ble_eq_true rfl) (fun _ h9 => h9) rfl rfl rfl rfl (Nat.le_of_ble_eq_true rfl) rfl dX1_setFilter_34 ?_
      refine g_aload B 1 dX1_setFilter_37 rfl ?_
      refine g_iload_n B 3 5 dX1_setFilter_39 rfl rfl ?_
      refine g_putN (C := RX3) (T := TX3) (N := 12) (ty := .int) (v := .int da) B 2 4 9 [((ad 0), cM ad e0 mi lo su), ((ad 2), cA (ad 3) al4), ((ad 3), .inl (g.2.2.1, 10, .inr (.inr (.inr (.inr (iq ad)))))), ((ad 4), cI (ig 0)), ((ad 5), cI (upd (upd (ig 1) 8 cu) 9 da)), ((ad 6), cI (ig 2)), ((ad 7), cI (ig 3))] in_X3 tyX3 tyX3_ok nmX3 rfl q169 rfl (Nat.le_of_ble_eq_true rfl) (fun _ h9 => h9) rfl rfl rfl rfl (Nat.le_of_ble_eq_true rfl) rfl dX1_setFilter_40 ?_
      refine g_iload B 0 dX1_setFilter_43 rfl ?_
      exact g_xiret B hr dX1_setFilter_45 (Nat.le_of_ble_eq_true rfl) (Nat.le_of_ble_eq_true rfl) () ⟨(by first | (simp only [k_filter, if_pos b_1, te_3, if_pos kr_8, if_pos kr_9]; done) | (simp only [k_filter, if_pos b_1, te_3, if_pos kr_8, if_pos kr_9]; rfl) | rfl), (by first | (simp only [if_pos b_1, te_3, if_pos kr_8, if_pos kr_9]; done) | (simp only [if_pos b_1, te_3, if_pos kr_8, if_pos kr_9]; rfl) | rfl)⟩ [0, 1, 2, 3, 4, 5, 6] rfl (by first | (simp only [if_pos b_1, te_3, if_pos kr_8, if_pos kr_9]; rfl) | rfl | (rw [e_3]; rfl))
    · skip
      replace e_3 : i = 2 := e_3
      have te_3 : i.toNatClampNeg = 2 := by rw [e_3]; decide
      refine g_lvq (lv' := [(0, .ref (ad 0)), (1, .int 2), (2, .int cu), (3, .int da)]) (by rw [e_3]) ?_
      refine g_aload_n B 0 0 dX1_setFilter_0 rfl rfl ?_
      refine g_iload_n B 1 1 dX1_setFilter_1 rfl rfl ?_
      refine g_cuV_q (C := RX1) (T := TX1) (N := 17) (As := [.int 2]) B (m_X1_instrument l hst g ad e0 mi lo su 2 2 (by decide) (by decide) (ig 2)) 0 0 rfl rfl [0, 1, 2, 5] [] (lw_V q764 q766 qs14 q26 q767) nvX1_instrument rfl rfl rfl rfl (Nat.le_of_ble_eq_true rfl) dX1_setFilter_2 ⟨Nat.le_of_ble_eq_true rfl, Nat.le_of_ble_eq_true rfl⟩ ⟨Nat.le_of_ble_eq_true rfl, Nat.le_of_ble_eq_true rfl⟩ (fun r_10 ur_10 hr_10 => ?_)
      obtain rfl : some (ad 6) = r_10 := (hr_10).symm
      refine g_eqs (st' := [.ref (ad 6)]) rfl ?_
      refine g_astore B [(4, .ref (ad 6)), (0, .ref (ad 0)), (1, .int 2), (2, .int cu), (3, .int da)] dX1_setFilter_5 (Nat.le_of_ble_eq_true rfl) rfl ?_
      refine g_iconst (v := 1) B dX1_setFilter_7 kc_1 ?_
      refine g_sipush (v := 128) B dX1_setFilter_8 ks_128 ?_
      refine g_iload_n B 2 3 dX1_setFilter_11 rfl rfl ?_
      refine g_xuS_v (As := [.int 1, .int 128, .int cu]) B (m_X1_requireFrom l hst g 1 128 cu) [] [] (lw_S q580 q581 q26 q582) nsX1_requireFrom rfl rfl rfl rfl (Nat.le_of_ble_eq_true rfl) dX1_setFilter_12 ⟨Nat.le_of_ble_eq_true rfl, Nat.le_of_ble_eq_true rfl⟩ ⟨Nat.le_of_ble_eq_true rfl, Nat.le_of_ble_eq_true rfl⟩ (fun E hE => ?_) (fun ur_11 hr_11 => ?_)
      · skip
        have hK9 : ¬ (fr_k 1 128 cu) = 0 := by rw [hE.2]; decide
        exact g_xout B hT hA9 (Nat.le_of_ble_eq_true rfl) (Nat.le_of_ble_eq_true rfl) (Or.inr ⟨hE.1, (by first | exact hE.2 | (simp only [k_filter, if_pos b_1, te_3, if_neg hK9]; done) | (simp only [k_filter, if_pos b_1, te_3, if_neg hK9]; rfl) | rfl)⟩) [0, 1, 2, 3, 4, 5, 6] rfl rfl
      have kr_11 : (fr_k 1 128 cu) = 0 := hr_11
      refine g_bipush (v := 16) B dX1_setFilter_15 kb_16 ?_
      refine g_sipush (v := 256) B dX1_setFilter_17 ks_256 ?_
      refine g_iload_n B 3 4 dX1_setFilter_20 rfl rfl ?_
      refine g_xuS_v (As := [.int 16, .int 256, .int da]) B (m_X1_requireFrom l hst g 16 256 da) [] [] (lw_S q580 q581 q26 q582) nsX1_requireFrom rfl rfl rfl rfl (Nat.le_of_ble_eq_true rfl) dX1_setFilter_21 ⟨Nat.le_of_ble_eq_true rfl, Nat.le_of_ble_eq_true rfl⟩ ⟨Nat.le_of_ble_eq_true rfl, Nat.le_of_ble_eq_true rfl⟩ (fun E hE => ?_) (fun ur_12 hr_12 => ?_)
      · skip
        have hK9 : ¬ (fr_k 16 256 da) = 0 := by rw [hE.2]; decide
        exact g_xout B hT hA9 (Nat.le_of_ble_eq_true rfl) (Nat.le_of_ble_eq_true rfl) (Or.inr ⟨hE.1, (by first | exact hE.2 | (simp only [k_filter, if_pos b_1, te_3, if_pos kr_11, if_neg hK9]; done) | (simp only [k_filter, if_pos b_1, te_3, if_pos kr_11, if_neg hK9]; rfl) | rfl)⟩) [0, 1, 2, 3, 4, 5, 6] rfl rfl
      have kr_12 : (fr_k 16 256 da) = 0 := hr_12
      refine g_aload B 0 dX1_setFilter_24 rfl ?_
      refine g_getN (C := RX3) (T := TX3) (N := 12) B 2 5 8 (.int ((ig 2) 8)) in_X3 rfl q166 rfl (Nat.le_of_ble_eq_true rfl) (fun _ h9 => h9) rfl dX1_setFilter_26 ?_
      refine g_istore B [(5, .int ((ig 2) 8)), (4, .ref (ad 6)), (0, .ref (ad 0)), (1, .int 2), (2, .int cu), (3, .int da)] dX1_setFilter_29 (Nat.le_of_ble_eq_true rfl) rfl ?_
      refine g_aload B 1 dX1_setFilter_31 rfl ?_
      refine g_iload_n B 2 4 dX1_setFilter_33 rfl rfl ?_
      refine g_putN (C := RX3) (T := TX3) (N := 12) (ty := .int) (v := .int cu) B 2 5 8 [((ad 0), cM ad e0 mi lo su), ((ad 2), cA (ad 3) al4), ((ad 3), .inl (g.2.2.1, 10, .inr (.inr (.inr (.inr (iq ad)))))), ((ad 4), cI (ig 0)), ((ad 5), cI (ig 1)), ((ad 6), cI (upd (ig 2) 8 cu)), ((ad 7), cI (ig 3))] in_X3 tyX3 tyX3_ok nmX3 rfl q166 rfl (Nat.le_of_ble_eq_true rfl) (fun _ h9 => h9) rfl rfl rfl rfl (Nat.le_of_ble_eq_true rfl) rfl dX1_setFilter_34 ?_
      refine g_aload B 1 dX1_setFilter_37 rfl ?_
      refine g_iload_n B 3 5 dX1_setFilter_39 rfl rfl ?_
      refine g_putN (C := RX3) (T := TX3) (N := 12) (ty := .int) (v := .int da) B 2 5 9 [((ad 0), cM ad e0 mi lo su), ((ad 2), cA (ad 3) al4), ((ad 3), .inl (g.2.2.1, 10, .inr (.inr (.inr (.inr (iq ad)))))), ((ad 4), cI (ig 0)), ((ad 5), cI (ig 1)), ((ad 6), cI (upd (upd (ig 2) 8 cu) 9 da)), ((ad 7), cI (ig 3))] in_X3 tyX3 tyX3_ok nmX3 rfl q169 rfl (Nat.le_of_ble_eq_true rfl) (fun _ h9 => h9) rfl rfl rfl rfl (Nat.le_of_ble_eq_true rfl) rfl dX1_setFilter_40 ?_
      refine g_iload B 0 dX1_setFilter_43 rfl ?_
      exact g_xiret B hr dX1_setFilter_45 (Nat.le_of_ble_eq_true rfl) (Nat.le_of_ble_eq_true rfl) () ⟨(by first | (simp only [k_filter, if_pos b_1, te_3, if_pos kr_11, if_pos kr_12]; done) | (simp only [k_filter, if_pos b_1, te_3, if_pos kr_11, if_pos kr_12]; rfl) | rfl), (by first | (simp only [if_pos b_1, te_3, if_pos kr_11, if_pos kr_12]; done) | (simp only [if_pos b_1, te_3, if_pos kr_11, if_pos kr_12]; rfl) | rfl)⟩ [0, 1, 2, 3, 4, 5, 6] rfl (by first | (simp only [if_pos b_1, te_3, if_pos kr_11, if_pos kr_12]; rfl) | rfl | (rw [e_3]; rfl))
    · skip
      replace e_3 : i = 3 := e_3
      have te_3 : i.toNatClampNeg = 3 := by rw [e_3]; decide
      refine g_lvq (lv' := [(0, .ref (ad 0)), (1, .int 3), (2, .int cu), (3, .int da)]) (by rw [e_3]) ?_
      refine g_aload_n B 0 0 dX1_setFilter_0 rfl rfl ?_
      refine g_iload_n B 1 1 dX1_setFilter_1 rfl rfl ?_
      refine g_cuV_q (C := RX1) (T := TX1) (N := 17) (As := [.int 3]) B (m_X1_instrument l hst g ad e0 mi lo su 3 3 (by decide) (by decide) (ig 3)) 0 0 rfl rfl [0, 1, 2, 6] [] (lw_V q764 q766 qs14 q26 q767) nvX1_instrument rfl rfl rfl rfl (Nat.le_of_ble_eq_true rfl) dX1_setFilter_2 ⟨Nat.le_of_ble_eq_true rfl, Nat.le_of_ble_eq_true rfl⟩ ⟨Nat.le_of_ble_eq_true rfl, Nat.le_of_ble_eq_true rfl⟩ (fun r_13 ur_13 hr_13 => ?_)
      obtain rfl : some (ad 7) = r_13 := (hr_13).symm
      refine g_eqs (st' := [.ref (ad 7)]) rfl ?_
      refine g_astore B [(4, .ref (ad 7)), (0, .ref (ad 0)), (1, .int 3), (2, .int cu), (3, .int da)] dX1_setFilter_5 (Nat.le_of_ble_eq_true rfl) rfl ?_
      refine g_iconst (v := 1) B dX1_setFilter_7 kc_1 ?_
      refine g_sipush (v := 128) B dX1_setFilter_8 ks_128 ?_
      refine g_iload_n B 2 3 dX1_setFilter_11 rfl rfl ?_
      refine g_xuS_v (As := [.int 1, .int 128, .int cu]) B (m_X1_requireFrom l hst g 1 128 cu) [] [] (lw_S q580 q581 q26 q582) nsX1_requireFrom rfl rfl rfl rfl (Nat.le_of_ble_eq_true rfl) dX1_setFilter_12 ⟨Nat.le_of_ble_eq_true rfl, Nat.le_of_ble_eq_true rfl⟩ ⟨Nat.le_of_ble_eq_true rfl, Nat.le_of_ble_eq_true rfl⟩ (fun E hE => ?_) (fun ur_14 hr_14 => ?_)
      · skip
        have hK9 : ¬ (fr_k 1 128 cu) = 0 := by rw [hE.2]; decide
        exact g_xout B hT hA9 (Nat.le_of_ble_eq_true rfl) (Nat.le_of_ble_eq_true rfl) (Or.inr ⟨hE.1, (by first | exact hE.2 | (simp only [k_filter, if_pos b_1, te_3, if_neg hK9]; done) | (simp only [k_filter, if_pos b_1, te_3, if_neg hK9]; rfl) | rfl)⟩) [0, 1, 2, 3, 4, 5, 6] rfl rfl
      have kr_14 : (fr_k 1 128 cu) = 0 := hr_14
      refine g_bipush (v := 16) B dX1_setFilter_15 kb_16 ?_
      refine g_sipush (v := 256) B dX1_setFilter_17 ks_256 ?_
      refine g_iload_n B 3 4 dX1_setFilter_20 rfl rfl ?_
      refine g_xuS_v (As := [.int 16, .int 256, .int da]) B (m_X1_requireFrom l hst g 16 256 da) [] [] (lw_S q580 q581 q26 q582) nsX1_requireFrom rfl rfl rfl rfl (Nat.le_of_ble_eq_true rfl) dX1_setFilter_21 ⟨Nat.le_of_ble_eq_true rfl, Nat.le_of_ble_eq_true rfl⟩ ⟨Nat.le_of_ble_eq_true rfl, Nat.le_of_ble_eq_true rfl⟩ (fun E hE => ?_) (fun ur_15 hr_15 => ?_)
      · skip
        have hK9 : ¬ (fr_k 16 256 da) = 0 := by rw [hE.2]; decide
        exact g_xout B hT hA9 (Nat.le_of_ble_eq_true rfl) (Nat.le_of_ble_eq_true rfl) (Or.inr ⟨hE.1, (by first | exact hE.2 | (simp only [k_filter, if_pos b_1, te_3, if_pos kr_14, if_neg hK9]; done) | (simp only [k_filter, if_pos b_1, te_3, if_pos kr_14, if_neg hK9]; rfl) | rfl)⟩) [0, 1, 2, 3, 4, 5, 6] rfl rfl
      have kr_15 : (fr_k 16 256 da) = 0 := hr_15
      refine g_aload B 0 dX1_setFilter_24 rfl ?_
      refine g_getN (C := RX3) (T := TX3) (N := 12) B 2 6 8 (.int ((ig 3) 8)) in_X3 rfl q166 rfl (Nat.le_of_ble_eq_true rfl) (fun _ h9 => h9) rfl dX1_setFilter_26 ?_
      refine g_istore B [(5, .int ((ig 3) 8)), (4, .ref (ad 7)), (0, .ref (ad 0)), (1, .int 3), (2, .int cu), (3, .int da)] dX1_setFilter_29 (Nat.le_of_ble_eq_true rfl) rfl ?_
      refine g_aload B 1 dX1_setFilter_31 rfl ?_
      refine g_iload_n B 2 4 dX1_setFilter_33 rfl rfl ?_
      refine g_putN (C := RX3) (T := TX3) (N := 12) (ty := .int) (v := .int cu) B 2 6 8 [((ad 0), cM ad e0 mi lo su), ((ad 2), cA (ad 3) al4), ((ad 3), .inl (g.2.2.1, 10, .inr (.inr (.inr (.inr (iq ad)))))), ((ad 4), cI (ig 0)), ((ad 5), cI (ig 1)), ((ad 6), cI (ig 2)), ((ad 7), cI (upd (ig 3) 8 cu))] in_X3 tyX3 tyX3_ok nmX3 rfl q166 rfl (Nat.le_of_ble_eq_true rfl) (fun _ h9 => h9) rfl rfl rfl rfl (Nat.le_of_ble_eq_true rfl) rfl dX1_setFilter_34 ?_
      refine g_aload B 1 dX1_setFilter_37 rfl ?_
      refine g_iload_n B 3 5 dX1_setFilter_39 rfl rfl ?_
      refine g_putN (C := RX3) (T := TX3) (N := 12) (ty := .int) (v := .int da) B 2 6 9 [((ad 0), cM ad e0 mi lo su), ((ad 2), cA (ad 3) al4), ((ad 3), .inl (g.2.2.1, 10, .inr (.inr (.inr (.inr (iq ad)))))), ((ad 4), cI (ig 0)), ((ad 5), cI (ig 1)), ((ad 6), cI (ig 2)), ((ad 7), cI (upd (upd (ig 3) 8 cu) 9 da))] in_X3 tyX3 tyX3_ok nmX3 rfl q169 rfl (Nat.le_of_ble_eq_true rfl) (fun _ h9 => h9) rfl rfl rfl rfl (Nat.le_of_ble_eq_true rfl) rfl dX1_setFilter_40 ?_
      refine g_iload B 0 dX1_setFilter_43 rfl ?_
      exact g_xiret B hr dX1_setFilter_45 (Nat.le_of_ble_eq_true rfl) (Nat.le_of_ble_eq_true rfl) () ⟨(by first | (simp only [k_filter, if_pos b_1, te_3, if_pos kr_14, if_pos kr_15]; done) | (simp only [k_filter, if_pos b_1, te_3, if_pos kr_14, if_pos kr_15]; rfl) | rfl), (by first | (simp only [if_pos b_1, te_3, if_pos kr_14, if_pos kr_15]; done) | (simp only [if_pos b_1, te_3, if_pos kr_14, if_pos kr_15]; rfl) | rfl)⟩ [0, 1, 2, 3, 4, 5, 6] rfl (by first | (simp only [if_pos b_1, te_3, if_pos kr_14, if_pos kr_15]; rfl) | rfl | (rw [e_3]; rfl))
  · skip
    refine g_aload_n B 0 0 dX1_setFilter_0 rfl rfl ?_
    refine g_iload_n B 1 1 dX1_setFilter_1 rfl rfl ?_
    refine g_xuV_q (C := RX1) (T := TX1) (N := 17) (As := [.int i]) B (m_X1_instrument_b l hst g ad e0 mi lo su i b_1) 0 0 rfl rfl [0] [] (lw_V q764 q766 qs14 q26 q767) nvX1_instrument rfl rfl rfl rfl (Nat.le_of_ble_eq_true rfl) dX1_setFilter_2 ⟨Nat.le_of_ble_eq_true rfl, Nat.le_of_ble_eq_true rfl⟩ ⟨Nat.le_of_ble_eq_true rfl, Nat.le_of_ble_eq_true rfl⟩ (fun E hE => ?_) (fun r_16 ur_16 hr_16 => ?_)
    · skip
      have hK9 : ¬ (ix_k i 4) = 0 := by rw [hE.2]; decide
      exact g_xout B hT hA9 (Nat.le_of_ble_eq_true rfl) (Nat.le_of_ble_eq_true rfl) (Or.inl ⟨hE.1, (by first | exact hE.2 | (simp only [k_filter, if_neg b_1, if_neg hK9]; done) | (simp only [k_filter, if_neg b_1, if_neg hK9]; rfl) | rfl)⟩) [0, 1, 2, 3, 4, 5, 6] rfl rfl
    have kr_16 : (ix_k i 4) = 0 := hr_16.1
    replace hr_16 := hr_16.2
    exact absurd kr_16 b_1

set_option maxHeartbeats 4000000 in
set_option maxRecDepth 100000 in
theorem m_X1_setVibrato (l : Launch) (hst : l.stackTraces = false) (g : gG) (ad : Nat → Nat) (e0 : Nat) (mi : Nat → Int32) (lo su : Int64) (ig : Nat → Nat → Int32) (i de pe : Int32) : gXi l yX1_setVibrato cX1_setVibrato 6 .int 8 131 8 48 g [((ad 0), cM ad e0 mi lo su), ((ad 2), cA (ad 3) al4), ((ad 3), .inl (g.2.2.1, 10, .inr (.inr (.inr (.inr (iq ad)))))), ((ad 4), cI (ig 0)), ((ad 5), cI (ig 1)), ((ad 6), cI (ig 2)), ((ad 7), cI (ig 3))] [.ref (ad 0), .int i, .int de, .int pe] (fun (r : Int32) (_ : Unit) => (k_vib i de pe) = 0 ∧ r = ig i.toNatClampNeg 10) (fun _ : Unit => [((ad 0), cM ad e0 mi lo su), ((ad 2), cA (ad 3) al4), ((ad 3), .inl (g.2.2.1, 10, .inr (.inr (.inr (.inr (iq ad)))))), ((ad 4), cI ((va_up ig i.toNatClampNeg (s_vib (ig i.toNatClampNeg) de pe)) 0)), ((ad 5), cI ((va_up ig i.toNatClampNeg (s_vib (ig i.toNatClampNeg) de pe)) 1)), ((ad 6), cI ((va_up ig i.toNatClampNeg (s_vib (ig i.toNatClampNeg) de pe)) 2)), ((ad 7), cI ((va_up ig i.toNatClampNeg (s_vib (ig i.toNatClampNeg) de pe)) 3))]) (fun E : String => (E = eIO ∧ (k_vib i de pe) = 1) ∨ (E = eIA ∧ (k_vib i de pe) = 2)) := by
  intro sz
  refine g_xent (by decide) hst [(0, .ref (ad 0)), (1, .int i), (2, .int de), (3, .int pe)] (Nat.le_of_ble_eq_true rfl) rfl ?_
  intro p e s m below meth c B hr hnm hsz hT
  have B : gB p l s m ([.ref (ad 0), .int i, .int de, .int pe] : List Value).toArray meth c RX1 cX1_setVibrato 6 g (va_A [((ad 0), cM ad e0 mi lo su), ((ad 2), cA (ad 3) al4), ((ad 3), .inl (g.2.2.1, 10, .inr (.inr (.inr (.inr (iq ad)))))), ((ad 4), cI (ig 0)), ((ad 5), cI (ig 1)), ((ad 6), cI (ig 2)), ((ad 7), cI (ig 3))] sz) := B
  have hA9 : (va_A [((ad 0), cM ad e0 mi lo su), ((ad 2), cA (ad 3) al4), ((ad 3), .inl (g.2.2.1, 10, .inr (.inr (.inr (.inr (iq ad)))))), ((ad 4), cI (ig 0)), ((ad 5), cI (ig 1)), ((ad 6), cI (ig 2)), ((ad 7), cI (ig 3))] sz) = va_A [((ad 0), cM ad e0 mi lo su), ((ad 2), cA (ad 3) al4), ((ad 3), .inl (g.2.2.1, 10, .inr (.inr (.inr (.inr (iq ad)))))), ((ad 4), cI (ig 0)), ((ad 5), cI (ig 1)), ((ad 6), cI (ig 2)), ((ad 7), cI (ig 3))] s.heap.size := by rw [hsz]
  subst hsz
  by_cases b_1 : ix_k i 4 = 0
  · skip
    obtain ⟨q_2, hq_2, e_3⟩ := ix_nat (N := 4) b_1 (by decide) (by decide)
    rcases (show q_2 = 0 ∨ q_2 = 1 ∨ q_2 = 2 ∨ q_2 = 3 by omega) with rfl | rfl | rfl | rfl
    · skip
      replace e_3 : i = 0 := e_3
      have te_3 : i.toNatClampNeg = 0 := by rw [e_3]; decide
      refine g_lvq (lv' := [(0, .ref (ad 0)), (1, .int 0), (2, .int de), (3, .int pe)]) (by rw [e_3]) ?_
      refine g_aload_n B 0 0 dX1_setVibrato_0 rfl rfl ?_
      refine g_iload_n B 1 1 dX1_setVibrato_1 rfl rfl ?_
      refine g_cuV_q (C := RX1) (T := TX1) (N := 17) (As := [.int 0]) B (m_X1_instrument l hst g ad e0 mi lo su 0 0 (by decide) (by decide) (ig 0)) 0 0 rfl rfl [0, 1, 2, 3] [] (lw_V q764 q766 qs14 q26 q767) nvX1_instrument rfl rfl rfl rfl (Nat.le_of_ble_eq_true rfl) dX1_setVibrato_2 ⟨Nat.le_of_ble_eq_true rfl, Nat.le_of_ble_eq_true rfl⟩ ⟨Nat.le_of_ble_eq_true rfl, Nat.le_of_ble_eq_true rfl⟩ (fun r_4 ur_4 hr_4 => ?_)
      obtain rfl : some (ad 4) = r_4 := (hr_4).symm
      refine g_eqs (st' := [.ref (ad 4)]) rfl ?_
      refine g_astore B [(4, .ref (ad 4)), (0, .ref (ad 0)), (1, .int 0), (2, .int de), (3, .int pe)] dX1_setVibrato_5 (Nat.le_of_ble_eq_true rfl) rfl ?_
      refine g_iconst (v := 0) B dX1_setVibrato_7 kc_0 ?_
      refine g_bipush (v := 64) B dX1_setVibrato_8 kb_64 ?_
      refine g_iload_n B 2 3 dX1_setVibrato_10 rfl rfl ?_
      refine g_xuS_v (As := [.int 0, .int 64, .int de]) B (m_X1_requireFrom l hst g 0 64 de) [] [] (lw_S q580 q581 q26 q582) nsX1_requireFrom rfl rfl rfl rfl (Nat.le_of_ble_eq_true rfl) dX1_setVibrato_11 ⟨Nat.le_of_ble_eq_true rfl, Nat.le_of_ble_eq_true rfl⟩ ⟨Nat.le_of_ble_eq_true rfl, Nat.le_of_ble_eq_true rfl⟩ (fun E hE => ?_) (fun ur_5 hr_5 => ?_)
      · skip
        have hK9 : ¬ (fr_k 0 64 de) = 0 := by rw [hE.2]; decide
        exact g_xout B hT hA9 (Nat.le_of_ble_eq_true rfl) (Nat.le_of_ble_eq_true rfl) (Or.inr ⟨hE.1, (by first | exact hE.2 | (simp only [k_vib, if_pos b_1, te_3, if_neg hK9]; done) | (simp only [k_vib, if_pos b_1, te_3, if_neg hK9]; rfl) | rfl)⟩) [0, 1, 2, 3, 4, 5, 6] rfl rfl
      have kr_5 : (fr_k 0 64 de) = 0 := hr_5
      refine g_bipush (v := 8) B dX1_setVibrato_14 kb_8 ?_
      refine g_sipush (v := 255) B dX1_setVibrato_16 ks_255 ?_
      refine g_iload_n B 3 4 dX1_setVibrato_19 rfl rfl ?_
      refine g_xuS_v (As := [.int 8, .int 255, .int pe]) B (m_X1_requireFrom l hst g 8 255 pe) [] [] (lw_S q580 q581 q26 q582) nsX1_requireFrom rfl rfl rfl rfl (Nat.le_of_ble_eq_true rfl) dX1_setVibrato_20 ⟨Nat.le_of_ble_eq_true rfl, Nat.le_of_ble_eq_true rfl⟩ ⟨Nat.le_of_ble_eq_true rfl, Nat.le_of_ble_eq_true rfl⟩ (fun E hE => ?_) (fun ur_6 hr_6 => ?_)
      · skip
        have hK9 : ¬ (fr_k 8 255 pe) = 0 := by rw [hE.2]; decide
        exact g_xout B hT hA9 (Nat.le_of_ble_eq_true rfl) (Nat.le_of_ble_eq_true rfl) (Or.inr ⟨hE.1, (by first | exact hE.2 | (simp only [k_vib, if_pos b_1, te_3, if_pos kr_5, if_neg hK9]; done) | (simp only [k_vib, if_pos b_1, te_3, if_pos kr_5, if_neg hK9]; rfl) | rfl)⟩) [0, 1, 2, 3, 4, 5, 6] rfl rfl
      have kr_6 : (fr_k 8 255 pe) = 0 := hr_6
      refine g_aload B 0 dX1_setVibrato_23 rfl ?_
      refine g_getN (C := RX3) (T := TX3) (N := 12) B 2 3 10 (.int ((ig 0) 10)) in_X3 rfl q171 rfl (Nat.le_of_ble_eq_true rfl) (fun _ h9 => h9) rfl dX1_setVibrato_25 ?_
      refine g_istore B [(5, .int ((ig 0) 10)), (4, .ref (ad 4)), (0, .ref (ad 0)), (1, .int 0), (2, .int de), (3, .int pe)] dX1_setVibrato_28 (Nat.le_of_ble_eq_true rfl) rfl ?_
      refine g_aload B 1 dX1_setVibrato_30 rfl ?_
      refine g_iload_n B 2 4 dX1_setVibrato_32 rfl rfl ?_
      refine g_putN (C := RX3) (T := TX3) (N := 12) (ty := .int) (v := .int de) B 2 3 10 [((ad 0), cM ad e0 mi lo su), ((ad 2), cA (ad 3) al4), ((ad 3), .inl (g.2.2.1, 10, .inr (.inr (.inr (.inr (iq ad)))))), ((ad 4), cI (upd (ig 0) 10 de)), ((ad 5), cI (ig 1)), ((ad 6), cI (ig 2)), ((ad 7), cI (ig 3))] in_X3 tyX3 tyX3_ok nmX3 rfl q171 rfl (Nat.le_of_ble_eq_true rfl) (fun _ h9 => h9) rfl rfl rfl rfl (Nat.le_of_ble_eq_true rfl) rfl dX1_setVibrato_33 ?_
      refine g_aload B 1 dX1_setVibrato_36 rfl ?_
      refine g_iload_n B 3 5 dX1_setVibrato_38 rfl rfl ?_
      refine g_putN (C := RX3) (T := TX3) (N := 12) (ty := .int) (v := .int pe) B 2 3 11 [((ad 0), cM ad e0 mi lo su), ((ad 2), cA (ad 3) al4), ((ad 3), .inl (g.2.2.1, 10, .inr (.inr (.inr (.inr (iq ad)))))), ((ad 4), cI (upd (upd (ig 0) 10 de) 11 pe)), ((ad 5), cI (ig 1)), ((ad 6), cI (ig 2)), ((ad 7), cI (ig 3))] in_X3 tyX3 tyX3_ok nmX3 rfl q174 rfl (Nat.le_of_ble_eq_true rfl) (fun _ h9 => h9) rfl rfl rfl rfl (Nat.le_of_ble_eq_true rfl) rfl dX1_setVibrato_39 ?_
      refine g_iload B 0 dX1_setVibrato_42 rfl ?_
      exact g_xiret B hr dX1_setVibrato_44 (Nat.le_of_ble_eq_true rfl) (Nat.le_of_ble_eq_true rfl) () ⟨(by first | (simp only [k_vib, if_pos b_1, te_3, if_pos kr_5, if_pos kr_6]; done) | (simp only [k_vib, if_pos b_1, te_3, if_pos kr_5, if_pos kr_6]; rfl) | rfl), (by first | (simp only [if_pos b_1, te_3, if_pos kr_5, if_pos kr_6]; done) | (simp only [if_pos b_1, te_3, if_pos kr_5, if_pos kr_6]; rfl) | rfl)⟩ [0, 1, 2, 3, 4, 5, 6] rfl (by first | (simp only [if_pos b_1, te_3, if_pos kr_5, if_pos kr_6]; rfl) | rfl | (rw [e_3]; rfl))
    · skip
      replace e_3 : i = 1 := e_3
      have te_3 : i.toNatClampNeg = 1 := by rw [e_3]; decide
      refine g_lvq (lv' := [(0, .ref (ad 0)), (1, .int 1), (2, .int de), (3, .int pe)]) (by rw [e_3]) ?_
      refine g_aload_n B 0 0 dX1_setVibrato_0 rfl rfl ?_
      refine g_iload_n B 1 1 dX1_setVibrato_1 rfl rfl ?_
      refine g_cuV_q (C := RX1) (T := TX1) (N := 17) (As := [.int 1]) B (m_X1_instrument l hst g ad e0 mi lo su 1 1 (by decide) (by decide) (ig 1)) 0 0 rfl rfl [0, 1, 2, 4] [] (lw_V q764 q766 qs14 q26 q767) nvX1_instrument rfl rfl rfl rfl (Nat.le_of_ble_eq_true rfl) dX1_setVibrato_2 ⟨Nat.le_of_ble_eq_true rfl, Nat.le_of_ble_eq_true rfl⟩ ⟨Nat.le_of_ble_eq_true rfl, Nat.le_of_ble_eq_true rfl⟩ (fun r_7 ur_7 hr_7 => ?_)
      obtain rfl : some (ad 5) = r_7 := (hr_7).symm
      refine g_eqs (st' := [.ref (ad 5)]) rfl ?_
      refine g_astore B [(4, .ref (ad 5)), (0, .ref (ad 0)), (1, .int 1), (2, .int de), (3, .int pe)] dX1_setVibrato_5 (Nat.le_of_ble_eq_true rfl) rfl ?_
      refine g_iconst (v := 0) B dX1_setVibrato_7 kc_0 ?_
      refine g_bipush (v := 64) B dX1_setVibrato_8 kb_64 ?_
      refine g_iload_n B 2 3 dX1_setVibrato_10 rfl rfl ?_
      refine g_xuS_v (As := [.int 0, .int 64, .int de]) B (m_X1_requireFrom l hst g 0 64 de) [] [] (lw_S q580 q581 q26 q582) nsX1_requireFrom rfl rfl rfl rfl (Nat.le_of_ble_eq_true rfl) dX1_setVibrato_11 ⟨Nat.le_of_ble_eq_true rfl, Nat.le_of_ble_eq_true rfl⟩ ⟨Nat.le_of_ble_eq_true rfl, Nat.le_of_ble_eq_true rfl⟩ (fun E hE => ?_) (fun ur_8 hr_8 => ?_)
      · skip
        have hK9 : ¬ (fr_k 0 64 de) = 0 := by rw [hE.2]; decide
        exact g_xout B hT hA9 (Nat.le_of_ble_eq_true rfl) (Nat.le_of_ble_eq_true rfl) (Or.inr ⟨hE.1, (by first | exact hE.2 | (simp only [k_vib, if_pos b_1, te_3, if_neg hK9]; done) | (simp only [k_vib, if_pos b_1, te_3, if_neg hK9]; rfl) | rfl)⟩) [0, 1, 2, 3, 4, 5, 6] rfl rfl
      have kr_8 : (fr_k 0 64 de) = 0 := hr_8
      refine g_bipush (v := 8) B dX1_setVibrato_14 kb_8 ?_
      refine g_sipush (v := 255) B dX1_setVibrato_16 ks_255 ?_
      refine g_iload_n B 3 4 dX1_setVibrato_19 rfl rfl ?_
      refine g_xuS_v (As := [.int 8, .int 255, .int pe]) B (m_X1_requireFrom l hst g 8 255 pe) [] [] (lw_S q580 q581 q26 q582) nsX1_requireFrom rfl rfl rfl rfl (Nat.le_of_ble_eq_true rfl) dX1_setVibrato_20 ⟨Nat.le_of_ble_eq_true rfl, Nat.le_of_ble_eq_true rfl⟩ ⟨Nat.le_of_ble_eq_true rfl, Nat.le_of_ble_eq_true rfl⟩ (fun E hE => ?_) (fun ur_9 hr_9 => ?_)
      · skip
        have hK9 : ¬ (fr_k 8 255 pe) = 0 := by rw [hE.2]; decide
        exact g_xout B hT hA9 (Nat.le_of_ble_eq_true rfl) (Nat.le_of_ble_eq_true rfl) (Or.inr ⟨hE.1, (by first | exact hE.2 | (simp only [k_vib, if_pos b_1, te_3, if_pos kr_8, if_neg hK9]; done) | (simp only [k_vib, if_pos b_1, te_3, if_pos kr_8, if_neg hK9]; rfl) | rfl)⟩) [0, 1, 2, 3, 4, 5, 6] rfl rfl
      have kr_9 : (fr_k 8 255 pe) = 0 := hr_9
      refine g_aload B 0 dX1_setVibrato_23 rfl ?_
      refine g_getN (C := RX3) (T := TX3) (N := 12) B 2 4 10 (.int ((ig 1) 10)) in_X3 rfl q171 rfl (Nat.le_of_ble_eq_true rfl) (fun _ h9 => h9) rfl dX1_setVibrato_25 ?_
      refine g_istore B [(5, .int ((ig 1) 10)), (4, .ref (ad 5)), (0, .ref (ad 0)), (1, .int 1), (2, .int de), (3, .int pe)] dX1_setVibrato_28 (Nat.le_of_ble_eq_true rfl) rfl ?_
      refine g_aload B 1 dX1_setVibrato_30 rfl ?_
      refine g_iload_n B 2 4 dX1_setVibrato_32 rfl rfl ?_
      refine g_putN (C := RX3) (T := TX3) (N := 12) (ty := .int) (v := .int de) B 2 4 10 [((ad 0), cM ad e0 mi lo su), ((ad 2), cA (ad 3) al4), ((ad 3), .inl (g.2.2.1, 10, .inr (.inr (.inr (.inr (iq ad)))))), ((ad 4), cI (ig 0)), ((ad 5), cI (upd (ig 1) 10 de)), ((ad 6), cI (ig 2)), ((ad 7), cI (ig 3))] in_X3 tyX3 tyX3_ok nmX3 rfl q171 rfl (Nat.le_of_ble_eq_true rfl) (fun _ h9 => h9) rfl rfl rfl rfl (Nat.le_of_ble_eq_true rfl) rfl dX1_setVibrato_33 ?_
      refine g_aload B 1 dX1_setVibrato_36 rfl ?_
      refine g_iload_n B 3 5 dX1_setVibrato_38 rfl rfl ?_
      refine g_putN (C := RX3) (T := TX3) (N := 12) (ty := .int) (v := .int pe) B 2 4 11 [((ad 0), cM ad e0 mi lo su), ((ad 2), cA (ad 3) al4), ((ad 3), .inl (g.2.2.1, 10, .inr (.inr (.inr (.inr (iq ad)))))), ((ad 4), cI (ig 0)), ((ad 5), cI (upd (upd (ig 1) 10 de) 11 pe)), ((ad 6), cI (ig 2)), ((ad 7), cI (ig 3))] in_X3 tyX3 tyX3_ok nmX3 rfl q174 rfl (Nat.le_of_ble_eq_true rfl) (fun _ h9 => h9) rfl rfl rfl rfl (Nat.le_of_ble_eq_true rfl) rfl dX1_setVibrato_39 ?_
      refine g_iload B 0 dX1_setVibrato_42 rfl ?_
      exact g_xiret B hr dX1_setVibrato_44 (Nat.le_of_ble_eq_true rfl) (Nat.le_of_ble_eq_true rfl) () ⟨(by first | (simp only [k_vib, if_pos b_1, te_3, if_pos kr_8, if_pos kr_9]; done) | (simp only [k_vib, if_pos b_1, te_3, if_pos kr_8, if_pos kr_9]; rfl) | rfl), (by first | (simp only [if_pos b_1, te_3, if_pos kr_8, if_pos kr_9]; done) | (simp only [if_pos b_1, te_3, if_pos kr_8, if_pos kr_9]; rfl) | rfl)⟩ [0, 1, 2, 3, 4, 5, 6] rfl (by first | (simp only [if_pos b_1, te_3, if_pos kr_8, if_pos kr_9]; rfl) | rfl | (rw [e_3]; rfl))
    · skip
      replace e_3 : i = 2 := e_3
      have te_3 : i.toNatClampNeg = 2 := by rw [e_3]; decide
      refine g_lvq (lv' := [(0, .ref (ad 0)), (1, .int 2), (2, .int de), (3, .int pe)]) (by rw [e_3]) ?_
      refine g_aload_n B 0 0 dX1_setVibrato_0 rfl rfl ?_
      refine g_iload_n B 1 1 dX1_setVibrato_1 rfl rfl ?_
      refine g_cuV_q (C := RX1) (T := TX1) (N := 17) (As := [.int 2]) B (m_X1_instrument l hst g ad e0 mi lo su 2 2 (by decide) (by decide) (ig 2)) 0 0 rfl rfl [0, 1, 2, 5] [] (lw_V q764 q766 qs14 q26 q767) nvX1_instrument rfl rfl rfl rfl (Nat.le_of_ble_eq_true rfl) dX1_setVibrato_2 ⟨Nat.le_of_ble_eq_true rfl, Nat.le_of_ble_eq_true rfl⟩ ⟨Nat.le_of_ble_eq_true rfl, Nat.le_of_ble_eq_true rfl⟩ (fun r_10 ur_10 hr_10 => ?_)
      obtain rfl : some (ad 6) = r_10 := (hr_10).symm
      refine g_eqs (st' := [.ref (ad 6)]) rfl ?_
      refine g_astore B [(4, .ref (ad 6)), (0, .ref (ad 0)), (1, .int 2), (2, .int de), (3, .int pe)] dX1_setVibrato_5 (Nat.le_of_ble_eq_true rfl) rfl ?_
      refine g_iconst (v := 0) B dX1_setVibrato_7 kc_0 ?_
      refine g_bipush (v := 64) B dX1_setVibrato_8 kb_64 ?_
      refine g_iload_n B 2 3 dX1_setVibrato_10 rfl rfl ?_
      refine g_xuS_v (As := [.int 0, .int 64, .int de]) B (m_X1_requireFrom l hst g 0 64 de) [] [] (lw_S q580 q581 q26 q582) nsX1_requireFrom rfl rfl rfl rfl (Nat.le_of_ble_eq_true rfl) dX1_setVibrato_11 ⟨Nat.le_of_ble_eq_true rfl, Nat.le_of_ble_eq_true rfl⟩ ⟨Nat.le_of_ble_eq_true rfl, Nat.le_of_ble_eq_true rfl⟩ (fun E hE => ?_) (fun ur_11 hr_11 => ?_)
      · skip
        have hK9 : ¬ (fr_k 0 64 de) = 0 := by rw [hE.2]; decide
        exact g_xout B hT hA9 (Nat.le_of_ble_eq_true rfl) (Nat.le_of_ble_eq_true rfl) (Or.inr ⟨hE.1, (by first | exact hE.2 | (simp only [k_vib, if_pos b_1, te_3, if_neg hK9]; done) | (simp only [k_vib, if_pos b_1, te_3, if_neg hK9]; rfl) | rfl)⟩) [0, 1, 2, 3, 4, 5, 6] rfl rfl
      have kr_11 : (fr_k 0 64 de) = 0 := hr_11
      refine g_bipush (v := 8) B dX1_setVibrato_14 kb_8 ?_
      refine g_sipush (v := 255) B dX1_setVibrato_16 ks_255 ?_
      refine g_iload_n B 3 4 dX1_setVibrato_19 rfl rfl ?_
      refine g_xuS_v (As := [.int 8, .int 255, .int pe]) B (m_X1_requireFrom l hst g 8 255 pe) [] [] (lw_S q580 q581 q26 q582) nsX1_requireFrom rfl rfl rfl rfl (Nat.le_of_ble_eq_true rfl) dX1_setVibrato_20 ⟨Nat.le_of_ble_eq_true rfl, Nat.le_of_ble_eq_true rfl⟩ ⟨Nat.le_of_ble_eq_true rfl, Nat.le_of_ble_eq_true rfl⟩ (fun E hE => ?_) (fun ur_12 hr_12 => ?_)
      · skip
        have hK9 : ¬ (fr_k 8 255 pe) = 0 := by rw [hE.2]; decide
        exact g_xout B hT hA9 (Nat.le_of_ble_eq_true rfl) (Nat.le_of_ble_eq_true rfl) (Or.inr ⟨hE.1, (by first | exact hE.2 | (simp only [k_vib, if_pos b_1, te_3, if_pos kr_11, if_neg hK9]; done) | (simp only [k_vib, if_pos b_1, te_3, if_pos kr_11, if_neg hK9]; rfl) | rfl)⟩) [0, 1, 2, 3, 4, 5, 6] rfl rfl
      have kr_12 : (fr_k 8 255 pe) = 0 := hr_12
      refine g_aload B 0 dX1_setVibrato_23 rfl ?_
      refine g_getN (C := RX3) (T := TX3) (N := 12) B 2 5 10 (.int ((ig 2) 10)) in_X3 rfl q171 rfl (Nat.le_of_ble_eq_true rfl) (fun _ h9 => h9) rfl dX1_setVibrato_25 ?_
      refine g_istore B [(5, .int ((ig 2) 10)), (4, .ref (ad 6)), (0, .ref (ad 0)), (1, .int 2), (2, .int de), (3, .int pe)] dX1_setVibrato_28 (Nat.le_of_ble_eq_true rfl) rfl ?_
      refine g_aload B 1 dX1_setVibrato_30 rfl ?_
      refine g_iload_n B 2 4 dX1_setVibrato_32 rfl rfl ?_
      refine g_putN (C := RX3) (T := TX3) (N := 12) (ty := .int) (v := .int de) B 2 5 10 [((ad 0), cM ad e0 mi lo su), ((ad 2), cA (ad 3) al4), ((ad 3), .inl (g.2.2.1, 10, .inr (.inr (.inr (.inr (iq ad)))))), ((ad 4), cI (ig 0)), ((ad 5), cI (ig 1)), ((ad 6), cI (upd (ig 2) 10 de)), ((ad 7), cI (ig 3))] in_X3 tyX3 tyX3_ok nmX3 rfl q171 rfl (Nat.le_of_ble_eq_true rfl) (fun _ h9 => h9) rfl rfl rfl rfl (Nat.le_of_ble_eq_true rfl) rfl dX1_setVibrato_33 ?_
      refine g_aload B 1 dX1_setVibrato_36 rfl ?_
      refine g_iload_n B 3 5 dX1_setVibrato_38 rfl rfl ?_
      refine g_putN (C := RX3) (T := TX3) (N := 12) (ty := .int) (v := .int pe) B 2 5 11 [((ad 0), cM ad e0 mi lo su), ((ad 2), cA (ad 3) al4), ((ad 3), .inl (g.2.2.1, 10, .inr (.inr (.inr (.inr (iq ad)))))), ((ad 4), cI (ig 0)), ((ad 5), cI (ig 1)), ((ad 6), cI (upd (upd (ig 2) 10 de) 11 pe)), ((ad 7), cI (ig 3))] in_X3 tyX3 tyX3_ok nmX3 rfl q174 rfl (Nat.le_of_ble_eq_true rfl) (fun _ h9 => h9) rfl rfl rfl rfl (Nat.le_of_ble_eq_true rfl) rfl dX1_setVibrato_39 ?_
      refine g_iload B 0 dX1_setVibrato_42 rfl ?_
      exact g_xiret B hr dX1_setVibrato_44 (Nat.le_of_ble_eq_true rfl) (Nat.le_of_ble_eq_true rfl) () ⟨(by first | (simp only [k_vib, if_pos b_1, te_3, if_pos kr_11, if_pos kr_12]; done) | (simp only [k_vib, if_pos b_1, te_3, if_pos kr_11, if_pos kr_12]; rfl) | rfl), (by first | (simp only [if_pos b_1, te_3, if_pos kr_11, if_pos kr_12]; done) | (simp only [if_pos b_1, te_3, if_pos kr_11, if_pos kr_12]; rfl) | rfl)⟩ [0, 1, 2, 3, 4, 5, 6] rfl (by first | (simp only [if_pos b_1, te_3, if_pos kr_11, if_pos kr_12]; rfl) | rfl | (rw [e_3]; rfl))
    · skip
      replace e_3 : i = 3 := e_3
      have te_3 : i.toNatClampNeg = 3 := by rw [e_3]; decide
      refine g_lvq (lv' := [(0, .ref (ad 0)), (1, .int 3), (2, .int de), (3, .int pe)]) (by rw [e_3]) ?_
      refine g_aload_n B 0 0 dX1_setVibrato_0 rfl rfl ?_
      refine g_iload_n B 1 1 dX1_setVibrato_1 rfl rfl ?_
      refine g_cuV_q (C := RX1) (T := TX1) (N := 17) (As := [.int 3]) B (m_X1_instrument l hst g ad e0 mi lo su 3 3 (by decide) (by decide) (ig 3)) 0 0 rfl rfl [0, 1, 2, 6] [] (lw_V q764 q766 qs14 q26 q767) nvX1_instrument rfl rfl rfl rfl (Nat.le_of_ble_eq_true rfl) dX1_setVibrato_2 ⟨Nat.le_of_ble_eq_true rfl, Nat.le_of_ble_eq_true rfl⟩ ⟨Nat.le_of_ble_eq_true rfl, Nat.le_of_ble_eq_true rfl⟩ (fun r_13 ur_13 hr_13 => ?_)
      obtain rfl : some (ad 7) = r_13 := (hr_13).symm
      refine g_eqs (st' := [.ref (ad 7)]) rfl ?_
      refine g_astore B [(4, .ref (ad 7)), (0, .ref (ad 0)), (1, .int 3), (2, .int de), (3, .int pe)] dX1_setVibrato_5 (Nat.le_of_ble_eq_true rfl) rfl ?_
      refine g_iconst (v := 0) B dX1_setVibrato_7 kc_0 ?_
      refine g_bipush (v := 64) B dX1_setVibrato_8 kb_64 ?_
      refine g_iload_n B 2 3 dX1_setVibrato_10 rfl rfl ?_
      refine g_xuS_v (As := [.int 0, .int 64, .int de]) B (m_X1_requireFrom l hst g 0 64 de) [] [] (lw_S q580 q581 q26 q582) nsX1_requireFrom rfl rfl rfl rfl (Nat.le_of_ble_eq_true rfl) dX1_setVibrato_11 ⟨Nat.le_of_ble_eq_true rfl, Nat.le_of_ble_eq_true rfl⟩ ⟨Nat.le_of_ble_eq_true rfl, Nat.le_of_ble_eq_true rfl⟩ (fun E hE => ?_) (fun ur_14 hr_14 => ?_)
      · skip
        have hK9 : ¬ (fr_k 0 64 de) = 0 := by rw [hE.2]; decide
        exact g_xout B hT hA9 (Nat.le_of_ble_eq_true rfl) (Nat.le_of_ble_eq_true rfl) (Or.inr ⟨hE.1, (by first | exact hE.2 | (simp only [k_vib, if_pos b_1, te_3, if_neg hK9]; done) | (simp only [k_vib, if_pos b_1, te_3, if_neg hK9]; rfl) | rfl)⟩) [0, 1, 2, 3, 4, 5, 6] rfl rfl
      have kr_14 : (fr_k 0 64 de) = 0 := hr_14
      refine g_bipush (v := 8) B dX1_setVibrato_14 kb_8 ?_
      refine g_sipush (v := 255) B dX1_setVibrato_16 ks_255 ?_
      refine g_iload_n B 3 4 dX1_setVibrato_19 rfl rfl ?_
      refine g_xuS_v (As := [.int 8, .int 255, .int pe]) B (m_X1_requireFrom l hst g 8 255 pe) [] [] (lw_S q580 q581 q26 q582) nsX1_requireFrom rfl rfl rfl rfl (Nat.le_of_ble_eq_true rfl) dX1_setVibrato_20 ⟨Nat.le_of_ble_eq_true rfl, Nat.le_of_ble_eq_true rfl⟩ ⟨Nat.le_of_ble_eq_true rfl, Nat.le_of_ble_eq_true rfl⟩ (fun E hE => ?_) (fun ur_15 hr_15 => ?_)
      · skip
        have hK9 : ¬ (fr_k 8 255 pe) = 0 := by rw [hE.2]; decide
        exact g_xout B hT hA9 (Nat.le_of_ble_eq_true rfl) (Nat.le_of_ble_eq_true rfl) (Or.inr ⟨hE.1, (by first | exact hE.2 | (simp only [k_vib, if_pos b_1, te_3, if_pos kr_14, if_neg hK9]; done) | (simp only [k_vib, if_pos b_1, te_3, if_pos kr_14, if_neg hK9]; rfl) | rfl)⟩) [0, 1, 2, 3, 4, 5, 6] rfl rfl
      have kr_15 : (fr_k 8 255 pe) = 0 := hr_15
      refine g_aload B 0 dX1_setVibrato_23 rfl ?_
      refine g_getN (C := RX3) (T := TX3) (N := 12) B 2 6 10 (.int ((ig 3) 10)) in_X3 rfl q171 rfl (Nat.le_of_ble_eq_true rfl) (fun _ h9 => h9) rfl dX1_setVibrato_25 ?_
      refine g_istore B [(5, .int ((ig 3) 10)), (4, .ref (ad 7)), (0, .ref (ad 0)), (1, .int 3), (2, .int de), (3, .int pe)] dX1_setVibrato_28 (Nat.le_of_ble_eq_true rfl) rfl ?_
      refine g_aload B 1 dX1_setVibrato_30 rfl ?_
      refine g_iload_n B 2 4 dX1_setVibrato_32 rfl rfl ?_
      refine g_putN (C := RX3) (T := TX3) (N := 12) (ty := .int) (v := .int de) B 2 6 10 [((ad 0), cM ad e0 mi lo su), ((ad 2), cA (ad 3) al4), ((ad 3), .inl (g.2.2.1, 10, .inr (.inr (.inr (.inr (iq ad)))))), ((ad 4), cI (ig 0)), ((ad 5), cI (ig 1)), ((ad 6), cI (ig 2)), ((ad 7), cI (upd (ig 3) 10 de))] in_X3 tyX3 tyX3_ok nmX3 rfl q171 rfl (Nat.le_of_ble_eq_true rfl) (fun _ h9 => h9) rfl rfl rfl rfl (Nat.le_of_ble_eq_true rfl) rfl dX1_setVibrato_33 ?_
      refine g_aload B 1 dX1_setVibrato_36 rfl ?_
      refine g_iload_n B 3 5 dX1_setVibrato_38 rfl rfl ?_
      refine g_putN (C := RX3) (T := TX3) (N := 12) (ty := .int) (v := .int pe) B 2 6 11 [((ad 0), cM ad e0 mi lo su), ((ad 2), cA (ad 3) al4), ((ad 3), .inl (g.2.2.1, 10, .inr (.inr (.inr (.inr (iq ad)))))), ((ad 4), cI (ig 0)), ((ad 5), cI (ig 1)), ((ad 6), cI (ig 2)), ((ad 7), cI (upd (upd (ig 3) 10 de) 11 pe))] in_X3 tyX3 tyX3_ok nmX3 rfl q174 rfl (Nat.le_of_ble_eq_true rfl) (fun _ h9 => h9) rfl rfl rfl rfl (Nat.le_of_ble_eq_true rfl) rfl dX1_setVibrato_39 ?_
      refine g_iload B 0 dX1_setVibrato_42 rfl ?_
      exact g_xiret B hr dX1_setVibrato_44 (Nat.le_of_ble_eq_true rfl) (Nat.le_of_ble_eq_true rfl) () ⟨(by first | (simp only [k_vib, if_pos b_1, te_3, if_pos kr_14, if_pos kr_15]; done) | (simp only [k_vib, if_pos b_1, te_3, if_pos kr_14, if_pos kr_15]; rfl) | rfl), (by first | (simp only [if_pos b_1, te_3, if_pos kr_14, if_pos kr_15]; done) | (simp only [if_pos b_1, te_3, if_pos kr_14, if_pos kr_15]; rfl) | rfl)⟩ [0, 1, 2, 3, 4, 5, 6] rfl (by first | (simp only [if_pos b_1, te_3, if_pos kr_14, if_pos kr_15]; rfl) | rfl | (rw [e_3]; rfl))
  · skip
    refine g_aload_n B 0 0 dX1_setVibrato_0 rfl rfl ?_
    refine g_iload_n B 1 1 dX1_setVibrato_1 rfl rfl ?_
    refine g_xuV_q (C := RX1) (T := TX1) (N := 17) (As := [.int i]) B (m_X1_instrument_b l hst g ad e0 mi lo su i b_1) 0 0 rfl rfl [0] [] (lw_V q764 q766 qs14 q26 q767) nvX1_instrument rfl rfl rfl rfl (Nat.le_of_ble_eq_true rfl) dX1_setVibrato_2 ⟨Nat.le_of_ble_eq_true rfl, Nat.le_of_ble_eq_true rfl⟩ ⟨Nat.le_of_ble_eq_true rfl, Nat.le_of_ble_eq_true rfl⟩ (fun E hE => ?_) (fun r_16 ur_16 hr_16 => ?_)
    · skip
      have hK9 : ¬ (ix_k i 4) = 0 := by rw [hE.2]; decide
      exact g_xout B hT hA9 (Nat.le_of_ble_eq_true rfl) (Nat.le_of_ble_eq_true rfl) (Or.inl ⟨hE.1, (by first | exact hE.2 | (simp only [k_vib, if_neg b_1, if_neg hK9]; done) | (simp only [k_vib, if_neg b_1, if_neg hK9]; rfl) | rfl)⟩) [0, 1, 2, 3, 4, 5, 6] rfl rfl
    have kr_16 : (ix_k i 4) = 0 := hr_16.1
    replace hr_16 := hr_16.2
    exact absurd kr_16 b_1
