/-! contracts: tracks, asking -/
set_option maxRecDepth 100000
theorem kb_63 : (Int8.ofInt 63).toInt32 = 63 := by decide
theorem kl_0 : Int64.ofNat ((0 : Fin 2) : Nat) = 0 := by decide
theorem nvX1_step : yX1_step.cls = RX1 ∧ yX1_step.cls ≠ "java/lang/invoke/MethodHandle" ∧ yX1_step.cls ≠ "java/lang/invoke/VarHandle" ∧ (parseMethodDescriptor yX1_step.desc).map (fun d => d.parameters.length) = some 0 := by decide +kernel
theorem nvX1_track : yX1_track.cls = RX1 ∧ yX1_track.cls ≠ "java/lang/invoke/MethodHandle" ∧ yX1_track.cls ≠ "java/lang/invoke/VarHandle" ∧ (parseMethodDescriptor yX1_track.desc).map (fun d => d.parameters.length) = some 1 := by decide +kernel
set_option maxHeartbeats 4000000 in
set_option maxRecDepth 100000 in
theorem m_X1_write (l : Launch) (hst : l.stackTraces = false) (g : gG) (ad : Nat → Nat) (e0 : Nat) (mi : Nat → Int32) (lo su : Int64) (tr : Nat → Nat → Int32) (tw : Nat → Nat → Nat → Int32) (t j pi fo ga : Int32) : gXi l yX1_write cX1_write 9 .int 8 131 8 48 g [((ad 0), cM ad e0 mi lo su), ((ad 8), cA (ad 9) al3), ((ad 9), .inl (g.2.2.1, 10, .inr (.inr (.inr (.inr (tq ad)))))), ((ad 10), cT (ad 13) (ad 16) (ad 19) (tr 0)), ((ad 11), cT (ad 14) (ad 17) (ad 20) (tr 1)), ((ad 12), cT (ad 15) (ad 18) (ad 21) (tr 2)), ((ad 13), .inl (g.2.1, 8, .inl (tw 0 0))), ((ad 14), .inl (g.2.1, 8, .inl (tw 1 0))), ((ad 15), .inl (g.2.1, 8, .inl (tw 2 0))), ((ad 16), .inl (g.2.1, 8, .inl (tw 0 1))), ((ad 17), .inl (g.2.1, 8, .inl (tw 1 1))), ((ad 18), .inl (g.2.1, 8, .inl (tw 2 1))), ((ad 19), .inl (g.2.1, 8, .inl (tw 0 2))), ((ad 20), .inl (g.2.1, 8, .inl (tw 1 2))), ((ad 21), .inl (g.2.1, 8, .inl (tw 2 2)))] [.ref (ad 0), .int t, .int j, .int pi, .int fo, .int ga] (fun (r : Int32) (_ : Unit) => (k_write t j pi fo ga) = 0 ∧ r = tw t.toNatClampNeg 0 j.toNatClampNeg) (fun _ : Unit => [((ad 0), cM ad e0 mi lo su), ((ad 8), cA (ad 9) al3), ((ad 9), .inl (g.2.2.1, 10, .inr (.inr (.inr (.inr (tq ad)))))), ((ad 10), cT (ad 13) (ad 16) (ad 19) (tr 0)), ((ad 11), cT (ad 14) (ad 17) (ad 20) (tr 1)), ((ad 12), cT (ad 15) (ad 18) (ad 21) (tr 2)), ((ad 13), .inl (g.2.1, 8, .inl ((s_wr tw t.toNatClampNeg j.toNatClampNeg pi fo ga) 0 0))), ((ad 14), .inl (g.2.1, 8, .inl ((s_wr tw t.toNatClampNeg j.toNatClampNeg pi fo ga) 1 0))), ((ad 15), .inl (g.2.1, 8, .inl ((s_wr tw t.toNatClampNeg j.toNatClampNeg pi fo ga) 2 0))), ((ad 16), .inl (g.2.1, 8, .inl ((s_wr tw t.toNatClampNeg j.toNatClampNeg pi fo ga) 0 1))), ((ad 17), .inl (g.2.1, 8, .inl ((s_wr tw t.toNatClampNeg j.toNatClampNeg pi fo ga) 1 1))), ((ad 18), .inl (g.2.1, 8, .inl ((s_wr tw t.toNatClampNeg j.toNatClampNeg pi fo ga) 2 1))), ((ad 19), .inl (g.2.1, 8, .inl ((s_wr tw t.toNatClampNeg j.toNatClampNeg pi fo ga) 0 2))), ((ad 20), .inl (g.2.1, 8, .inl ((s_wr tw t.toNatClampNeg j.toNatClampNeg pi fo ga) 1 2))), ((ad 21), .inl (g.2.1, 8, .inl ((s_wr tw t.toNatClampNeg j.toNatClampNeg pi fo ga) 2 2)))]) (fun E : String => (E = eIO ∧ (k_write t j pi fo ga) = 1) ∨ (E = eIA ∧ (k_write t j pi fo ga) = 2)) := by
  intro sz
  refine g_xent (by decide) hst [(0, .ref (ad 0)), (1, .int t), (2, .int j), (3, .int pi), (4, .int fo), (5, .int ga)] (Nat.le_of_ble_eq_true rfl) rfl ?_
  intro p e s m below meth c B hr hnm hsz hT
  have B : gB p l s m ([.ref (ad 0), .int t, .int j, .int pi, .int fo, .int ga] : List Value).toArray meth c RX1 cX1_write 9 g (va_A [((ad 0), cM ad e0 mi lo su), ((ad 8), cA (ad 9) al3), ((ad 9), .inl (g.2.2.1, 10, .inr (.inr (.inr (.inr (tq ad)))))), ((ad 10), cT (ad 13) (ad 16) (ad 19) (tr 0)), ((ad 11), cT (ad 14) (ad 17) (ad 20) (tr 1)), ((ad 12), cT (ad 15) (ad 18) (ad 21) (tr 2)), ((ad 13), .inl (g.2.1, 8, .inl (tw 0 0))), ((ad 14), .inl (g.2.1, 8, .inl (tw 1 0))), ((ad 15), .inl (g.2.1, 8, .inl (tw 2 0))), ((ad 16), .inl (g.2.1, 8, .inl (tw 0 1))), ((ad 17), .inl (g.2.1, 8, .inl (tw 1 1))), ((ad 18), .inl (g.2.1, 8, .inl (tw 2 1))), ((ad 19), .inl (g.2.1, 8, .inl (tw 0 2))), ((ad 20), .inl (g.2.1, 8, .inl (tw 1 2))), ((ad 21), .inl (g.2.1, 8, .inl (tw 2 2)))] sz) := B
  have hA9 : (va_A [((ad 0), cM ad e0 mi lo su), ((ad 8), cA (ad 9) al3), ((ad 9), .inl (g.2.2.1, 10, .inr (.inr (.inr (.inr (tq ad)))))), ((ad 10), cT (ad 13) (ad 16) (ad 19) (tr 0)), ((ad 11), cT (ad 14) (ad 17) (ad 20) (tr 1)), ((ad 12), cT (ad 15) (ad 18) (ad 21) (tr 2)), ((ad 13), .inl (g.2.1, 8, .inl (tw 0 0))), ((ad 14), .inl (g.2.1, 8, .inl (tw 1 0))), ((ad 15), .inl (g.2.1, 8, .inl (tw 2 0))), ((ad 16), .inl (g.2.1, 8, .inl (tw 0 1))), ((ad 17), .inl (g.2.1, 8, .inl (tw 1 1))), ((ad 18), .inl (g.2.1, 8, .inl (tw 2 1))), ((ad 19), .inl (g.2.1, 8, .inl (tw 0 2))), ((ad 20), .inl (g.2.1, 8, .inl (tw 1 2))), ((ad 21), .inl (g.2.1, 8, .inl (tw 2 2)))] sz) = va_A [((ad 0), cM ad e0 mi lo su), ((ad 8), cA (ad 9) al3), ((ad 9), .inl (g.2.2.1, 10, .inr (.inr (.inr (.inr (tq ad)))))), ((ad 10), cT (ad 13) (ad 16) (ad 19) (tr 0)), ((ad 11), cT (ad 14) (ad 17) (ad 20) (tr 1)), ((ad 12), cT (ad 15) (ad 18) (ad 21) (tr 2)), ((ad 13), .inl (g.2.1, 8, .inl (tw 0 0))), ((ad 14), .inl (g.2.1, 8, .inl (tw 1 0))), ((ad 15), .inl (g.2.1, 8, .inl (tw 2 0))), ((ad 16), .inl (g.2.1, 8, .inl (tw 0 1))), ((ad 17), .inl (g.2.1, 8, .inl (tw 1 1))), ((ad 18), .inl (g.2.1, 8, .inl (tw 2 1))), ((ad 19), .inl (g.2.1, 8, .inl (tw 0 2))), ((ad 20), .inl (g.2.1, 8, .inl (tw 1 2))), ((ad 21), .inl (g.2.1, 8, .inl (tw 2 2)))] s.heap.size := by rw [hsz]
  subst hsz
  by_cases b_1 : ix_k t 3 = 0
  · skip
    obtain ⟨q_2, hq_2, e_3⟩ := ix_nat (N := 3) b_1 (by decide) (by decide)
    rcases (show q_2 = 0 ∨ q_2 = 1 ∨ q_2 = 2 by omega) with rfl | rfl | rfl
    · skip
      replace e_3 : t = 0 := e_3
      have te_3 : t.toNatClampNeg = 0 := by rw [e_3]; decide
      refine g_lvq (lv' := [(0, .ref (ad 0)), (1, .int 0), (2, .int j), (3, .int pi), (4, .int fo), (5, .int ga)]) (by rw [e_3]) ?_
      refine g_aload_n B 0 0 dX1_write_0 rfl rfl ?_
      refine g_iload_n B 1 1 dX1_write_1 rfl rfl ?_
      refine g_cuV_q (C := RX1) (T := TX1) (N := 17) (As := [.int 0]) B (m_X1_track l hst g ad e0 mi lo su 0 0 (by decide) (by decide) (tr 0)) 0 0 rfl rfl [0, 1, 2, 3] [] (lw_V q691 q693 qs13 q26 q694) nvX1_track rfl rfl rfl rfl (Nat.le_of_ble_eq_true rfl) dX1_write_2 ⟨Nat.le_of_ble_eq_true rfl, Nat.le_of_ble_eq_true rfl⟩ ⟨Nat.le_of_ble_eq_true rfl, Nat.le_of_ble_eq_true rfl⟩ (fun r_4 ur_4 hr_4 => ?_)
      obtain rfl : some (ad 10) = r_4 := (hr_4).symm
      refine g_eqs (st' := [.ref (ad 10)]) rfl ?_
      refine g_astore B [(6, .ref (ad 10)), (0, .ref (ad 0)), (1, .int 0), (2, .int j), (3, .int pi), (4, .int fo), (5, .int ga)] dX1_write_5 (Nat.le_of_ble_eq_true rfl) rfl ?_
      refine g_iload_n B 2 3 dX1_write_7 rfl rfl ?_
      refine g_bipush (v := 8) B dX1_write_8 kb_8 ?_
      refine g_xuS_v (As := [.int j, .int 8]) B (m_X1_requireIndex l hst g j 8) [] [] (lw_S q669 q670 q26 q671) nsX1_requireIndex rfl rfl rfl rfl (Nat.le_of_ble_eq_true rfl) dX1_write_10 ⟨Nat.le_of_ble_eq_true rfl, Nat.le_of_ble_eq_true rfl⟩ ⟨Nat.le_of_ble_eq_true rfl, Nat.le_of_ble_eq_true rfl⟩ (fun E hE => ?_) (fun ur_5 hr_5 => ?_)
      · skip
        have hK9 : ¬ (ix_k j 8) = 0 := by rw [hE.2]; decide
        exact g_xout B hT hA9 (Nat.le_of_ble_eq_true rfl) (Nat.le_of_ble_eq_true rfl) (Or.inl ⟨hE.1, (by first | exact hE.2 | (simp only [k_write, if_pos b_1, te_3, if_neg hK9]; done) | (simp only [k_write, if_pos b_1, te_3, if_neg hK9]; rfl) | rfl)⟩) [0, 1, 2, 3, 4, 5, 6, 7, 8, 9, 10, 11, 12, 13, 14] rfl rfl
      have kr_5 : (ix_k j 8) = 0 := hr_5
      refine g_iconst (v := (-1)) B dX1_write_13 kc_m1 ?_
      refine g_bipush (v := 47) B dX1_write_14 kb_47 ?_
      refine g_iload_n B 3 4 dX1_write_16 rfl rfl ?_
      refine g_xuS_v (As := [.int (-1), .int 47, .int pi]) B (m_X1_requireFrom l hst g (-1) 47 pi) [] [] (lw_S q580 q581 q26 q582) nsX1_requireFrom rfl rfl rfl rfl (Nat.le_of_ble_eq_true rfl) dX1_write_17 ⟨Nat.le_of_ble_eq_true rfl, Nat.le_of_ble_eq_true rfl⟩ ⟨Nat.le_of_ble_eq_true rfl, Nat.le_of_ble_eq_true rfl⟩ (fun E hE => ?_) (fun ur_6 hr_6 => ?_)
      · skip
        have hK9 : ¬ (fr_k (-1) 47 pi) = 0 := by rw [hE.2]; decide
        exact g_xout B hT hA9 (Nat.le_of_ble_eq_true rfl) (Nat.le_of_ble_eq_true rfl) (Or.inr ⟨hE.1, (by first | exact hE.2 | (simp only [k_write, if_pos b_1, te_3, if_pos kr_5, if_neg hK9]; done) | (simp only [k_write, if_pos b_1, te_3, if_pos kr_5, if_neg hK9]; rfl) | rfl)⟩) [0, 1, 2, 3, 4, 5, 6, 7, 8, 9, 10, 11, 12, 13, 14] rfl rfl
      have kr_6 : (fr_k (-1) 47 pi) = 0 := hr_6
      refine g_iload_n B 3 4 dX1_write_20 rfl rfl ?_
      refine g_iconst (v := (-1)) B dX1_write_21 kc_m1 ?_
      refine g_icmp_ne (tgt := 29) B dX1_write_22 (by decide) (fun c_7 => ?_) (fun c_7 => ?_)
      · skip
        refine g_iconst (v := 0) B dX1_write_29 kc_0 ?_
        refine g_istore B [(7, .int 0), (6, .ref (ad 10)), (0, .ref (ad 0)), (1, .int 0), (2, .int j), (3, .int pi), (4, .int fo), (5, .int ga)] dX1_write_30 (Nat.le_of_ble_eq_true rfl) rfl ?_
        refine g_iload B 0 dX1_write_32 rfl ?_
        refine g_if_ne_F (tgt := 45) B dX1_write_34 (by decide) (by decide) ?_
        refine g_iconst (v := 1) B dX1_write_37 kc_1 ?_
        refine g_bipush (v := 127) B dX1_write_38 kb_127 ?_
        refine g_iload B 6 dX1_write_40 rfl ?_
        refine g_xuS_v (As := [.int 1, .int 127, .int fo]) B (m_X1_requireFrom l hst g 1 127 fo) [] [] (lw_S q580 q581 q26 q582) nsX1_requireFrom rfl rfl rfl rfl (Nat.le_of_ble_eq_true rfl) dX1_write_42 ⟨Nat.le_of_ble_eq_true rfl, Nat.le_of_ble_eq_true rfl⟩ ⟨Nat.le_of_ble_eq_true rfl, Nat.le_of_ble_eq_true rfl⟩ (fun E hE => ?_) (fun ur_8 hr_8 => ?_)
        · skip
          have hK9 : ¬ (fr_k 1 127 fo) = 0 := by rw [hE.2]; decide
          exact g_xout B hT hA9 (Nat.le_of_ble_eq_true rfl) (Nat.le_of_ble_eq_true rfl) (Or.inr ⟨hE.1, (by first | exact hE.2 | (simp only [k_write, if_pos b_1, te_3, if_pos kr_5, if_pos kr_6, if_neg c_7, if_neg hK9]; done) | (simp only [k_write, if_pos b_1, te_3, if_pos kr_5, if_pos kr_6, if_neg c_7, if_neg hK9]; rfl) | rfl)⟩) [0, 1, 2, 3, 4, 5, 6, 7, 8, 9, 10, 11, 12, 13, 14] rfl rfl
        have kr_8 : (fr_k 1 127 fo) = 0 := hr_8
        refine g_iload B 0 dX1_write_45 rfl ?_
        refine g_if_ne_F (tgt := 59) B dX1_write_47 (by decide) (by decide) ?_
        refine g_iconst (v := 1) B dX1_write_50 kc_1 ?_
        refine g_sipush (v := 200) B dX1_write_51 ks_200 ?_
        refine g_iload B 7 dX1_write_54 rfl ?_
        refine g_xuS_v (As := [.int 1, .int 200, .int ga]) B (m_X1_requireFrom l hst g 1 200 ga) [] [] (lw_S q580 q581 q26 q582) nsX1_requireFrom rfl rfl rfl rfl (Nat.le_of_ble_eq_true rfl) dX1_write_56 ⟨Nat.le_of_ble_eq_true rfl, Nat.le_of_ble_eq_true rfl⟩ ⟨Nat.le_of_ble_eq_true rfl, Nat.le_of_ble_eq_true rfl⟩ (fun E hE => ?_) (fun ur_9 hr_9 => ?_)
        · skip
          have hK9 : ¬ (fr_k 1 200 ga) = 0 := by rw [hE.2]; decide
          exact g_xout B hT hA9 (Nat.le_of_ble_eq_true rfl) (Nat.le_of_ble_eq_true rfl) (Or.inr ⟨hE.1, (by first | exact hE.2 | (simp only [k_write, if_pos b_1, te_3, if_pos kr_5, if_pos kr_6, if_neg c_7, if_pos kr_8, if_neg hK9]; done) | (simp only [k_write, if_pos b_1, te_3, if_pos kr_5, if_pos kr_6, if_neg c_7, if_pos kr_8, if_neg hK9]; rfl) | rfl)⟩) [0, 1, 2, 3, 4, 5, 6, 7, 8, 9, 10, 11, 12, 13, 14] rfl rfl
        have kr_9 : (fr_k 1 200 ga) = 0 := hr_9
        refine g_aload B 1 dX1_write_59 rfl ?_
        refine g_getN (C := RX4) (T := TX4) (N := 4) B 3 3 1 (.ref (ad 13)) in_X4 rfl q268 rfl (Nat.le_of_ble_eq_true rfl) (fun _ h9 => h9) rfl dX1_write_61 ?_
        refine g_iload_n B 2 4 dX1_write_64 rfl rfl ?_
        refine g_iald B 6 j.toNatClampNeg rfl rfl (ix_in kr_5 (by decide)) dX1_write_65 ?_
        refine g_topi (fun x_10 ex_10 => ?_)
        refine g_istore B [(8, .int x_10), (7, .int 0), (6, .ref (ad 10)), (0, .ref (ad 0)), (1, .int 0), (2, .int j), (3, .int pi), (4, .int fo), (5, .int ga)] dX1_write_66 (Nat.le_of_ble_eq_true rfl) rfl ?_
        refine g_aload B 2 dX1_write_68 rfl ?_
        refine g_getN (C := RX4) (T := TX4) (N := 4) B 3 3 1 (.ref (ad 13)) in_X4 rfl q268 rfl (Nat.le_of_ble_eq_true rfl) (fun _ h9 => h9) rfl dX1_write_70 ?_
        refine g_iload_n B 2 5 dX1_write_73 rfl rfl ?_
        refine g_iload_n B 3 6 dX1_write_74 rfl rfl ?_
        refine g_iast B 6 j.toNatClampNeg [((ad 0), cM ad e0 mi lo su), ((ad 8), cA (ad 9) al3), ((ad 9), .inl (g.2.2.1, 10, .inr (.inr (.inr (.inr (tq ad)))))), ((ad 10), cT (ad 13) (ad 16) (ad 19) (tr 0)), ((ad 11), cT (ad 14) (ad 17) (ad 20) (tr 1)), ((ad 12), cT (ad 15) (ad 18) (ad 21) (tr 2)), ((ad 13), .inl (g.2.1, 8, .inl (upd (tw 0 0) j.toNatClampNeg pi))), ((ad 14), .inl (g.2.1, 8, .inl (tw 1 0))), ((ad 15), .inl (g.2.1, 8, .inl (tw 2 0))), ((ad 16), .inl (g.2.1, 8, .inl (tw 0 1))), ((ad 17), .inl (g.2.1, 8, .inl (tw 1 1))), ((ad 18), .inl (g.2.1, 8, .inl (tw 2 1))), ((ad 19), .inl (g.2.1, 8, .inl (tw 0 2))), ((ad 20), .inl (g.2.1, 8, .inl (tw 1 2))), ((ad 21), .inl (g.2.1, 8, .inl (tw 2 2)))] rfl rfl (ix_in kr_5 (by decide)) rfl dX1_write_75 ?_
        refine g_aload B 2 dX1_write_76 rfl ?_
        refine g_getN (C := RX4) (T := TX4) (N := 4) B 3 3 2 (.ref (ad 16)) in_X4 rfl q271 rfl (Nat.le_of_ble_eq_true rfl) (fun _ h9 => h9) rfl dX1_write_78 ?_
        refine g_iload_n B 2 5 dX1_write_81 rfl rfl ?_
        refine g_iload B 1 dX1_write_82 rfl ?_
        refine g_if_eq_T (tgt := 91) B dX1_write_84 (by decide) (by decide) ?_
        refine g_iload B 7 dX1_write_91 rfl ?_
        refine g_iast B 9 j.toNatClampNeg [((ad 0), cM ad e0 mi lo su), ((ad 8), cA (ad 9) al3), ((ad 9), .inl (g.2.2.1, 10, .inr (.inr (.inr (.inr (tq ad)))))), ((ad 10), cT (ad 13) (ad 16) (ad 19) (tr 0)), ((ad 11), cT (ad 14) (ad 17) (ad 20) (tr 1)), ((ad 12), cT (ad 15) (ad 18) (ad 21) (tr 2)), ((ad 13), .inl (g.2.1, 8, .inl (upd (tw 0 0) j.toNatClampNeg pi))), ((ad 14), .inl (g.2.1, 8, .inl (tw 1 0))), ((ad 15), .inl (g.2.1, 8, .inl (tw 2 0))), ((ad 16), .inl (g.2.1, 8, .inl (upd (tw 0 1) j.toNatClampNeg fo))), ((ad 17), .inl (g.2.1, 8, .inl (tw 1 1))), ((ad 18), .inl (g.2.1, 8, .inl (tw 2 1))), ((ad 19), .inl (g.2.1, 8, .inl (tw 0 2))), ((ad 20), .inl (g.2.1, 8, .inl (tw 1 2))), ((ad 21), .inl (g.2.1, 8, .inl (tw 2 2)))] rfl rfl (ix_in kr_5 (by decide)) rfl dX1_write_93 ?_
        refine g_aload B 2 dX1_write_94 rfl ?_
        refine g_getN (C := RX4) (T := TX4) (N := 4) B 3 3 3 (.ref (ad 19)) in_X4 rfl q274 rfl (Nat.le_of_ble_eq_true rfl) (fun _ h9 => h9) rfl dX1_write_96 ?_
        refine g_iload_n B 2 5 dX1_write_99 rfl rfl ?_
        refine g_iload B 1 dX1_write_100 rfl ?_
        refine g_if_eq_T (tgt := 109) B dX1_write_102 (by decide) (by decide) ?_
        refine g_iload B 8 dX1_write_109 rfl ?_
        refine g_iast B 12 j.toNatClampNeg [((ad 0), cM ad e0 mi lo su), ((ad 8), cA (ad 9) al3), ((ad 9), .inl (g.2.2.1, 10, .inr (.inr (.inr (.inr (tq ad)))))), ((ad 10), cT (ad 13) (ad 16) (ad 19) (tr 0)), ((ad 11), cT (ad 14) (ad 17) (ad 20) (tr 1)), ((ad 12), cT (ad 15) (ad 18) (ad 21) (tr 2)), ((ad 13), .inl (g.2.1, 8, .inl (upd (tw 0 0) j.toNatClampNeg pi))), ((ad 14), .inl (g.2.1, 8, .inl (tw 1 0))), ((ad 15), .inl (g.2.1, 8, .inl (tw 2 0))), ((ad 16), .inl (g.2.1, 8, .inl (upd (tw 0 1) j.toNatClampNeg fo))), ((ad 17), .inl (g.2.1, 8, .inl (tw 1 1))), ((ad 18), .inl (g.2.1, 8, .inl (tw 2 1))), ((ad 19), .inl (g.2.1, 8, .inl (upd (tw 0 2) j.toNatClampNeg ga))), ((ad 20), .inl (g.2.1, 8, .inl (tw 1 2))), ((ad 21), .inl (g.2.1, 8, .inl (tw 2 2)))] rfl rfl (ix_in kr_5 (by decide)) rfl dX1_write_111 ?_
        refine g_iload B 0 dX1_write_112 rfl ?_
        subst ex_10
        exact g_xiret B hr dX1_write_114 (Nat.le_of_ble_eq_true rfl) (Nat.le_of_ble_eq_true rfl) () ⟨(by first | (simp only [k_write, if_pos b_1, te_3, if_pos kr_5, if_pos kr_6, if_neg c_7, if_pos kr_8, if_pos kr_9]; done) | (simp only [k_write, if_pos b_1, te_3, if_pos kr_5, if_pos kr_6, if_neg c_7, if_pos kr_8, if_pos kr_9]; rfl) | rfl), (by first | (simp only [s_wr, if_pos b_1, te_3, if_pos kr_5, if_pos kr_6, if_neg c_7, if_pos kr_8, if_pos kr_9]; done) | (simp only [s_wr, if_pos b_1, te_3, if_pos kr_5, if_pos kr_6, if_neg c_7, if_pos kr_8, if_pos kr_9]; rfl) | rfl)⟩ [0, 1, 2, 3, 4, 5, 6, 7, 8, 9, 10, 11, 12, 13, 14] rfl (by first | (simp only [s_wr, if_pos b_1, te_3, if_pos kr_5, if_pos kr_6, if_neg c_7, if_pos kr_8, if_pos kr_9]; rfl) | rfl | (rw [e_3]; rfl))
      · skip
        refine g_iconst (v := 1) B dX1_write_25 kc_1 ?_
        refine g_goto (tgt := 30) B dX1_write_26 (by decide) ?_
        refine g_istore B [(7, .int 1), (6, .ref (ad 10)), (0, .ref (ad 0)), (1, .int 0), (2, .int j), (3, .int pi), (4, .int fo), (5, .int ga)] dX1_write_30 (Nat.le_of_ble_eq_true rfl) rfl ?_
        refine g_iload B 0 dX1_write_32 rfl ?_
        refine g_if_ne_T (tgt := 45) B dX1_write_34 (by decide) (by decide) ?_
        refine g_iload B 0 dX1_write_45 rfl ?_
        refine g_if_ne_T (tgt := 59) B dX1_write_47 (by decide) (by decide) ?_
        refine g_aload B 1 dX1_write_59 rfl ?_
        refine g_getN (C := RX4) (T := TX4) (N := 4) B 3 3 1 (.ref (ad 13)) in_X4 rfl q268 rfl (Nat.le_of_ble_eq_true rfl) (fun _ h9 => h9) rfl dX1_write_61 ?_
        refine g_iload_n B 2 4 dX1_write_64 rfl rfl ?_
        refine g_iald B 6 j.toNatClampNeg rfl rfl (ix_in kr_5 (by decide)) dX1_write_65 ?_
        refine g_topi (fun x_11 ex_11 => ?_)
        refine g_istore B [(8, .int x_11), (7, .int 1), (6, .ref (ad 10)), (0, .ref (ad 0)), (1, .int 0), (2, .int j), (3, .int pi), (4, .int fo), (5, .int ga)] dX1_write_66 (Nat.le_of_ble_eq_true rfl) rfl ?_
        refine g_aload B 2 dX1_write_68 rfl ?_
        refine g_getN (C := RX4) (T := TX4) (N := 4) B 3 3 1 (.ref (ad 13)) in_X4 rfl q268 rfl (Nat.le_of_ble_eq_true rfl) (fun _ h9 => h9) rfl dX1_write_70 ?_
        refine g_iload_n B 2 5 dX1_write_73 rfl rfl ?_
        refine g_iload_n B 3 6 dX1_write_74 rfl rfl ?_
        refine g_iast B 6 j.toNatClampNeg [((ad 0), cM ad e0 mi lo su), ((ad 8), cA (ad 9) al3), ((ad 9), .inl (g.2.2.1, 10, .inr (.inr (.inr (.inr (tq ad)))))), ((ad 10), cT (ad 13) (ad 16) (ad 19) (tr 0)), ((ad 11), cT (ad 14) (ad 17) (ad 20) (tr 1)), ((ad 12), cT (ad 15) (ad 18) (ad 21) (tr 2)), ((ad 13), .inl (g.2.1, 8, .inl (upd (tw 0 0) j.toNatClampNeg pi))), ((ad 14), .inl (g.2.1, 8, .inl (tw 1 0))), ((ad 15), .inl (g.2.1, 8, .inl (tw 2 0))), ((ad 16), .inl (g.2.1, 8, .inl (tw 0 1))), ((ad 17), .inl (g.2.1, 8, .inl (tw 1 1))), ((ad 18), .inl (g.2.1, 8, .inl (tw 2 1))), ((ad 19), .inl (g.2.1, 8, .inl (tw 0 2))), ((ad 20), .inl (g.2.1, 8, .inl (tw 1 2))), ((ad 21), .inl (g.2.1, 8, .inl (tw 2 2)))] rfl rfl (ix_in kr_5 (by decide)) rfl dX1_write_75 ?_
        refine g_aload B 2 dX1_write_76 rfl ?_
        refine g_getN (C := RX4) (T := TX4) (N := 4) B 3 3 2 (.ref (ad 16)) in_X4 rfl q271 rfl (Nat.le_of_ble_eq_true rfl) (fun _ h9 => h9) rfl dX1_write_78 ?_
        refine g_iload_n B 2 5 dX1_write_81 rfl rfl ?_
        refine g_iload B 1 dX1_write_82 rfl ?_
        refine g_if_eq_F (tgt := 91) B dX1_write_84 (by decide) (by decide) ?_
        refine g_iconst (v := 0) B dX1_write_87 kc_0 ?_
        refine g_goto (tgt := 93) B dX1_write_88 (by decide) ?_
        refine g_iast B 9 j.toNatClampNeg [((ad 0), cM ad e0 mi lo su), ((ad 8), cA (ad 9) al3), ((ad 9), .inl (g.2.2.1, 10, .inr (.inr (.inr (.inr (tq ad)))))), ((ad 10), cT (ad 13) (ad 16) (ad 19) (tr 0)), ((ad 11), cT (ad 14) (ad 17) (ad 20) (tr 1)), ((ad 12), cT (ad 15) (ad 18) (ad 21) (tr 2)), ((ad 13), .inl (g.2.1, 8, .inl (upd (tw 0 0) j.toNatClampNeg pi))), ((ad 14), .inl (g.2.1, 8, .inl (tw 1 0))), ((ad 15), .inl (g.2.1, 8, .inl (tw 2 0))), ((ad 16), .inl (g.2.1, 8, .inl (upd (tw 0 1) j.toNatClampNeg 0))), ((ad 17), .inl (g.2.1, 8, .inl (tw 1 1))), ((ad 18), .inl (g.2.1, 8, .inl (tw 2 1))), ((ad 19), .inl (g.2.1, 8, .inl (tw 0 2))), ((ad 20), .inl (g.2.1, 8, .inl (tw 1 2))), ((ad 21), .inl (g.2.1, 8, .inl (tw 2 2)))] rfl rfl (ix_in kr_5 (by decide)) rfl dX1_write_93 ?_
        refine g_aload B 2 dX1_write_94 rfl ?_
        refine g_getN (C := RX4) (T := TX4) (N := 4) B 3 3 3 (.ref (ad 19)) in_X4 rfl q274 rfl (Nat.le_of_ble_eq_true rfl) (fun _ h9 => h9) rfl dX1_write_96 ?_
        refine g_iload_n B 2 5 dX1_write_99 rfl rfl ?_
        refine g_iload B 1 dX1_write_100 rfl ?_
        refine g_if_eq_F (tgt := 109) B dX1_write_102 (by decide) (by decide) ?_
        refine g_iconst (v := 0) B dX1_write_105 kc_0 ?_
        refine g_goto (tgt := 111) B dX1_write_106 (by decide) ?_
        refine g_iast B 12 j.toNatClampNeg [((ad 0), cM ad e0 mi lo su), ((ad 8), cA (ad 9) al3), ((ad 9), .inl (g.2.2.1, 10, .inr (.inr (.inr (.inr (tq ad)))))), ((ad 10), cT (ad 13) (ad 16) (ad 19) (tr 0)), ((ad 11), cT (ad 14) (ad 17) (ad 20) (tr 1)), ((ad 12), cT (ad 15) (ad 18) (ad 21) (tr 2)), ((ad 13), .inl (g.2.1, 8, .inl (upd (tw 0 0) j.toNatClampNeg pi))), ((ad 14), .inl (g.2.1, 8, .inl (tw 1 0))), ((ad 15), .inl (g.2.1, 8, .inl (tw 2 0))), ((ad 16), .inl (g.2.1, 8, .inl (upd (tw 0 1) j.toNatClampNeg 0))), ((ad 17), .inl (g.2.1, 8, .inl (tw 1 1))), ((ad 18), .inl (g.2.1, 8, .inl (tw 2 1))), ((ad 19), .inl (g.2.1, 8, .inl (upd (tw 0 2) j.toNatClampNeg 0))), ((ad 20), .inl (g.2.1, 8, .inl (tw 1 2))), ((ad 21), .inl (g.2.1, 8, .inl (tw 2 2)))] rfl rfl (ix_in kr_5 (by decide)) rfl dX1_write_111 ?_
        refine g_iload B 0 dX1_write_112 rfl ?_
        subst ex_11
        exact g_xiret B hr dX1_write_114 (Nat.le_of_ble_eq_true rfl) (Nat.le_of_ble_eq_true rfl) () ⟨(by first | (simp only [k_write, if_pos b_1, te_3, if_pos kr_5, if_pos kr_6, if_pos c_7]; done) | (simp only [k_write, if_pos b_1, te_3, if_pos kr_5, if_pos kr_6, if_pos c_7]; rfl) | rfl), (by first | (simp only [s_wr, if_pos b_1, te_3, if_pos kr_5, if_pos kr_6, if_pos c_7]; done) | (simp only [s_wr, if_pos b_1, te_3, if_pos kr_5, if_pos kr_6, if_pos c_7]; rfl) | rfl)⟩ [0, 1, 2, 3, 4, 5, 6, 7, 8, 9, 10, 11, 12, 13, 14] rfl (by first | (simp only [s_wr, if_pos b_1, te_3, if_pos kr_5, if_pos kr_6, if_pos c_7]; rfl) | rfl | (rw [e_3]; rfl))
    · skip
      replace e_3 : t = 1 := e_3
      have te_3 : t.toNatClampNeg = 1 := by rw [e_3]; decide
      refine g_lvq (lv' := [(0, .ref (ad 0)), (1, .int 1), (2, .int j), (3, .int pi), (4, .int fo), (5, .int ga)]) (by rw [e_3]) ?_
      refine g_aload_n B 0 0 dX1_write_0 rfl rfl ?_
      refine g_iload_n B 1 1 dX1_write_1 rfl rfl ?_
      refine g_cuV_q (C := RX1) (T := TX1) (N := 17) (As := [.int 1]) B (m_X1_track l hst g ad e0 mi lo su 1 1 (by decide) (by decide) (tr 1)) 0 0 rfl rfl [0, 1, 2, 4] [] (lw_V q691 q693 qs13 q26 q694) nvX1_track rfl rfl rfl rfl (Nat.le_of_ble_eq_true rfl) dX1_write_2 ⟨Nat.le_of_ble_eq_true rfl, Nat.le_of_ble_eq_true rfl⟩ ⟨Nat.le_of_ble_eq_true rfl, Nat.le_of_ble_eq_true rfl⟩ (fun r_12 ur_12 hr_12 => ?_)
      obtain rfl : some (ad 11) = r_12 := (hr_12).symm
      refine g_eqs (st' := [.ref (ad 11)]) rfl ?_
      refine g_astore B [(6, .ref (ad 11)), (0, .ref (ad 0)), (1, .int 1), (2, .int j), (3, .int pi), (4, .int fo), (5, .int ga)] dX1_write_5 (Nat.le_of_ble_eq_true rfl) rfl ?_
      refine g_iload_n B 2 3 dX1_write_7 rfl rfl ?_
      refine g_bipush (v := 8) B dX1_write_8 kb_8 ?_
      refine g_xuS_v (As := [.int j, .int 8]) B (m_X1_requireIndex l hst g j 8) [] [] (lw_S q669 q670 q26 q671) nsX1_requireIndex rfl rfl rfl rfl (Nat.le_of_ble_eq_true rfl) dX1_write_10 ⟨Nat.le_of_ble_eq_true rfl, Nat.le_of_ble_eq_true rfl⟩ ⟨Nat.le_of_ble_eq_true rfl, Nat.le_of_ble_eq_true rfl⟩ (fun E hE => ?_) (fun ur_13 hr_13 => ?_)
      · skip
        have hK9 : ¬ (ix_k j 8) = 0 := by rw [hE.2]; decide
        exact g_xout B hT hA9 (Nat.le_of_ble_eq_true rfl) (Nat.le_of_ble_eq_true rfl) (Or.inl ⟨hE.1, (by first | exact hE.2 | (simp only [k_write, if_pos b_1, te_3, if_neg hK9]; done) | (simp only [k_write, if_pos b_1, te_3, if_neg hK9]; rfl) | rfl)⟩) [0, 1, 2, 3, 4, 5, 6, 7, 8, 9, 10, 11, 12, 13, 14] rfl rfl
      have kr_13 : (ix_k j 8) = 0 := hr_13
      refine g_iconst (v := (-1)) B dX1_write_13 kc_m1 ?_
      refine g_bipush (v := 47) B dX1_write_14 kb_47 ?_
      refine g_iload_n B 3 4 dX1_write_16 rfl rfl ?_
      refine g_xuS_v (As := [.int (-1), .int 47, .int pi]) B (m_X1_requireFrom l hst g (-1) 47 pi) [] [] (lw_S q580 q581 q26 q582) nsX1_requireFrom rfl rfl rfl rfl (Nat.le_of_ble_eq_true rfl) dX1_write_17 ⟨Nat.le_of_ble_eq_true rfl, Nat.le_of_ble_eq_true rfl⟩ ⟨Nat.le_of_ble_eq_true rfl, Nat.le_of_ble_eq_true rfl⟩ (fun E hE => ?_) (fun ur_14 hr_14 => ?_)
      · skip
        have hK9 : ¬ (fr_k (-1) 47 pi) = 0 := by rw [hE.2]; decide
        exact g_xout B hT hA9 (Nat.le_of_ble_eq_true rfl) (Nat.le_of_ble_eq_true rfl) (Or.inr ⟨hE.1, (by first | exact hE.2 | (simp only [k_write, if_pos b_1, te_3, if_pos kr_13, if_neg hK9]; done) | (simp only [k_write, if_pos b_1, te_3, if_pos kr_13, if_neg hK9]; rfl) | rfl)⟩) [0, 1, 2, 3, 4, 5, 6, 7, 8, 9, 10, 11, 12, 13, 14] rfl rfl
      have kr_14 : (fr_k (-1) 47 pi) = 0 := hr_14
      refine g_iload_n B 3 4 dX1_write_20 rfl rfl ?_
      refine g_iconst (v := (-1)) B dX1_write_21 kc_m1 ?_
      refine g_icmp_ne (tgt := 29) B dX1_write_22 (by decide) (fun c_15 => ?_) (fun c_15 => ?_)
      · skip
        refine g_iconst (v := 0) B dX1_write_29 kc_0 ?_
        refine g_istore B [(7, .int 0), (6, .ref (ad 11)), (0, .ref (ad 0)), (1, .int 1), (2, .int j), (3, .int pi), (4, .int fo), (5, .int ga)] dX1_write_30 (Nat.le_of_ble_eq_true rfl) rfl ?_
        refine g_iload B 0 dX1_write_32 rfl ?_
        refine g_if_ne_F (tgt := 45) B dX1_write_34 (by decide) (by decide) ?_
        refine g_iconst (v := 1) B dX1_write_37 kc_1 ?_
        refine g_bipush (v := 127) B dX1_write_38 kb_127 ?_
        refine g_iload B 6 dX1_write_40 rfl ?_
        refine g_xuS_v (As := [.int 1, .int 127, .int fo]) B (m_X1_requireFrom l hst g 1 127 fo) [] [] (lw_S q580 q581 q26 q582) nsX1_requireFrom rfl rfl rfl rfl (Nat.le_of_ble_eq_true rfl) dX1_write_42 ⟨Nat.le_of_ble_eq_true rfl, Nat.le_of_ble_eq_true rfl⟩ ⟨Nat.le_of_ble_eq_true rfl, Nat.le_of_ble_eq_true rfl⟩ (fun E hE => ?_) (fun ur_16 hr_16 => ?_)
        · skip
          have hK9 : ¬ (fr_k 1 127 fo) = 0 := by rw [hE.2]; decide
          exact g_xout B hT hA9 (Nat.le_of_ble_eq_true rfl) (Nat.le_of_ble_eq_true rfl) (Or.inr ⟨hE.1, (by first | exact hE.2 | (simp only [k_write, if_pos b_1, te_3, if_pos kr_13, if_pos kr_14, if_neg c_15, if_neg hK9]; done) | (simp only [k_write, if_pos b_1, te_3, if_pos kr_13, if_pos kr_14, if_neg c_15, if_neg hK9]; rfl) | rfl)⟩) [0, 1, 2, 3, 4, 5, 6, 7, 8, 9, 10, 11, 12, 13, 14] rfl rfl
        have kr_16 : (fr_k 1 127 fo) = 0 := hr_16
        refine g_iload B 0 dX1_write_45 rfl ?_
        refine g_if_ne_F (tgt := 59) B dX1_write_47 (by decide) (by decide) ?_
        refine g_iconst (v := 1) B dX1_write_50 kc_1 ?_
        refine g_sipush (v := 200) B dX1_write_51 ks_200 ?_
        refine g_iload B 7 dX1_write_54 rfl ?_
        refine g_xuS_v (As := [.int 1, .int 200, .int ga]) B (m_X1_requireFrom l hst g 1 200 ga) [] [] (lw_S q580 q581 q26 q582) nsX1_requireFrom rfl rfl rfl rfl (Nat.le_of_ble_eq_true rfl) dX1_write_56 ⟨Nat.le_of_ble_eq_true rfl, Nat.le_of_ble_eq_true rfl⟩ ⟨Nat.le_of_ble_eq_true rfl, Nat.le_of_ble_eq_true rfl⟩ (fun E hE => ?_) (fun ur_17 hr_17 => ?_)
        · skip
          have hK9 : ¬ (fr_k 1 200 ga) = 0 := by rw [hE.2]; decide
          exact g_xout B hT hA9 (Nat.le_of_ble_eq_true rfl) (Nat.le_of_ble_eq_true rfl) (Or.inr ⟨hE.1, (by first | exact hE.2 | (simp only [k_write, if_pos b_1, te_3, if_pos kr_13, if_pos kr_14, if_neg c_15, if_pos kr_16, if_neg hK9]; done) | (simp only [k_write, if_pos b_1, te_3, if_pos kr_13, if_pos kr_14, if_neg c_15, if_pos kr_16, if_neg hK9]; rfl) | rfl)⟩) [0, 1, 2, 3, 4, 5, 6, 7, 8, 9, 10, 11, 12, 13, 14] rfl rfl
        have kr_17 : (fr_k 1 200 ga) = 0 := hr_17
        refine g_aload B 1 dX1_write_59 rfl ?_
        refine g_getN (C := RX4) (T := TX4) (N := 4) B 3 4 1 (.ref (ad 14)) in_X4 rfl q268 rfl (Nat.le_of_ble_eq_true rfl) (fun _ h9 => h9) rfl dX1_write_61 ?_
        refine g_iload_n B 2 4 dX1_write_64 rfl rfl ?_
        refine g_iald B 7 j.toNatClampNeg rfl rfl (ix_in kr_13 (by decide)) dX1_write_65 ?_
        refine g_topi (fun x_18 ex_18 => ?_)
        refine g_istore B [(8, .int x_18), (7, .int 0), (6, .ref (ad 11)), (0, .ref (ad 0)), (1, .int 1), (2, .int j), (3, .int pi), (4, .int fo), (5, .int ga)] dX1_write_66 (Nat.le_of_ble_eq_true rfl) rfl ?_
        refine g_aload B 2 dX1_write_68 rfl ?_
        refine g_getN (C := RX4) (T := TX4) (N := 4) B 3 4 1 (.ref (ad 14)) in_X4 rfl q268 rfl (Nat.le_of_ble_eq_true rfl) (fun _ h9 => h9) rfl dX1_write_70 ?_
        refine g_iload_n B 2 5 dX1_write_73 rfl rfl ?_
        refine g_iload_n B 3 6 dX1_write_74 rfl rfl ?_
        refine g_iast B 7 j.toNatClampNeg [((ad 0), cM ad e0 mi lo su), ((ad 8), cA (ad 9) al3), ((ad 9), .inl (g.2.2.1, 10, .inr (.inr (.inr (.inr (tq ad)))))), ((ad 10), cT (ad 13) (ad 16) (ad 19) (tr 0)), ((ad 11), cT (ad 14) (ad 17) (ad 20) (tr 1)), ((ad 12), cT (ad 15) (ad 18) (ad 21) (tr 2)), ((ad 13), .inl (g.2.1, 8, .inl (tw 0 0))), ((ad 14), .inl (g.2.1, 8, .inl (upd (tw 1 0) j.toNatClampNeg pi))), ((ad 15), .inl (g.2.1, 8, .inl (tw 2 0))), ((ad 16), .inl (g.2.1, 8, .inl (tw 0 1))), ((ad 17), .inl (g.2.1, 8, .inl (tw 1 1))), ((ad 18), .inl (g.2.1, 8, .inl (tw 2 1))), ((ad 19), .inl (g.2.1, 8, .inl (tw 0 2))), ((ad 20), .inl (g.2.1, 8, .inl (tw 1 2))), ((ad 21), .inl (g.2.1, 8, .inl (tw 2 2)))] rfl rfl (ix_in kr_13 (by decide)) rfl dX1_write_75 ?_
        refine g_aload B 2 dX1_write_76 rfl ?_
        refine g_getN (C := RX4) (T := TX4) (N := 4) B 3 4 2 (.ref (ad 17)) in_X4 rfl q271 rfl (Nat.le_of_ble_eq_true rfl) (fun _ h9 => h9) rfl dX1_write_78 ?_
        refine g_iload_n B 2 5 dX1_write_81 rfl rfl ?_
        refine g_iload B 1 dX1_write_82 rfl ?_
        refine g_if_eq_T (tgt := 91) B dX1_write_84 (by decide) (by decide) ?_
        refine g_iload B 7 dX1_write_91 rfl ?_
        refine g_iast B 10 j.toNatClampNeg [((ad 0), cM ad e0 mi lo su), ((ad 8), cA (ad 9) al3), ((ad 9), .inl (g.2.2.1, 10, .inr (.inr (.inr (.inr (tq ad)))))), ((ad 10), cT (ad 13) (ad 16) (ad 19) (tr 0)), ((ad 11), cT (ad 14) (ad 17) (ad 20) (tr 1)), ((ad 12), cT (ad 15) (ad 18) (ad 21) (tr 2)), ((ad 13), .inl (g.2.1, 8, .inl (tw 0 0))), ((ad 14), .inl (g.2.1, 8, .inl (upd (tw 1 0) j.toNatClampNeg pi))), ((ad 15), .inl (g.2.1, 8, .inl (tw 2 0))), ((ad 16), .inl (g.2.1, 8, .inl (tw 0 1))), ((ad 17), .inl (g.2.1, 8, .inl (upd (tw 1 1) j.toNatClampNeg fo))), ((ad 18), .inl (g.2.1, 8, .inl (tw 2 1))), ((ad 19), .inl (g.2.1, 8, .inl (tw 0 2))), ((ad 20), .inl (g.2.1, 8, .inl (tw 1 2))), ((ad 21), .inl (g.2.1, 8, .inl (tw 2 2)))] rfl rfl (ix_in kr_13 (by decide)) rfl dX1_write_93 ?_
        refine g_aload B 2 dX1_write_94 rfl ?_
        refine g_getN (C := RX4) (T := TX4) (N := 4) B 3 4 3 (.ref (ad 20)) in_X4 rfl q274 rfl (Nat.le_of_ble_eq_true rfl) (fun _ h9 => h9) rfl dX1_write_96 ?_
        refine g_iload_n B 2 5 dX1_write_99 rfl rfl ?_
        refine g_iload B 1 dX1_write_100 rfl ?_
        refine g_if_eq_T (tgt := 109) B dX1_write_102 (by decide) (by decide) ?_
        refine g_iload B 8 dX1_write_109 rfl ?_
        refine g_iast B 13 j.toNatClampNeg [((ad 0), cM ad e0 mi lo su), ((ad 8), cA (ad 9) al3), ((ad 9), .inl (g.2.2.1, 10, .inr (.inr (.inr (.inr (tq ad)))))), ((ad 10), cT (ad 13) (ad 16) (ad 19) (tr 0)), ((ad 11), cT (ad 14) (ad 17) (ad 20) (tr 1)), ((ad 12), cT (ad 15) (ad 18) (ad 21) (tr 2)), ((ad 13), .inl (g.2.1, 8, .inl (tw 0 0))), ((ad 14), .inl (g.2.1, 8, .inl (upd (tw 1 0) j.toNatClampNeg pi))), ((ad 15), .inl (g.2.1, 8, .inl (tw 2 0))), ((ad 16), .inl (g.2.1, 8, .inl (tw 0 1))), ((ad 17), .inl (g.2.1, 8, .inl (upd (tw 1 1) j.toNatClampNeg fo))), ((ad 18), .inl (g.2.1, 8, .inl (tw 2 1))), ((ad 19), .inl (g.2.1, 8, .inl (tw 0 2))), ((ad 20), .inl (g.2.1, 8, .inl (upd (tw 1 2) j.toNatClampNeg ga))), ((ad 21), .inl (g.2.1, 8, .inl (tw 2 2)))] rfl rfl (ix_in kr_13 (by decide)) rfl dX1_write_111 ?_
        refine g_iload B 0 dX1_write_112 rfl ?_
        subst ex_18
        exact g_xiret B hr dX1_write_114 (Nat.le_of_ble_eq_true rfl) (Nat.le_of_ble_eq_true rfl) () ⟨(by first | (simp only [k_write, if_pos b_1, te_3, if_pos kr_13, if_pos kr_14, if_neg c_15, if_pos kr_16, if_pos kr_17]; done) | (simp only [k_write, if_pos b_1, te_3, if_pos kr_13, if_pos kr_14, if_neg c_15, if_pos kr_16, if_pos kr_17]; rfl) | rfl), (by first | (simp only [s_wr, if_pos b_1, te_3, if_pos kr_13, if_pos kr_14, if_neg c_15, if_pos kr_16, if_pos kr_17]; done) | (simp only [s_wr, if_pos b_1, te_3, if_pos kr_13, if_pos kr_14, if_neg c_15, if_pos kr_16, if_pos kr_17]; rfl) | rfl)⟩ [0, 1, 2, 3, 4, 5, 6, 7, 8, 9, 10, 11, 12, 13, 14] rfl (by first | (simp only [s_wr, if_pos b_1, te_3, if_pos kr_13, if_pos kr_14, if_neg c_15, if_pos kr_16, if_pos kr_17]; rfl) | rfl | (rw [e_3]; rfl))
      · skip
        refine g_iconst (v := 1) B dX1_write_25 kc_1 ?_
        refine g_goto (tgt := 30) B dX1_write_26 (by decide) ?_
        refine g_istore B [(7, .int 1), (6, .ref (ad 11)), (0, .ref (ad 0)), (1, .int 1), (2, .int j), (3, .int pi), (4, .int fo), (5, .int ga)] dX1_write_30 (Nat.le_of_ble_eq_true rfl) rfl ?_
        refine g_iload B 0 dX1_write_32 rfl ?_
        refine g_if_ne_T (tgt := 45) B dX1_write_34 (by decide) (by decide) ?_
        refine g_iload B 0 dX1_write_45 rfl ?_
        refine g_if_ne_T (tgt := 59) B dX1_write_47 (by decide) (by decide) ?_
        refine g_aload B 1 dX1_write_59 rfl ?_
        refine g_getN (C := RX4) (T := TX4) (N := 4) B 3 4 1 (.ref (ad 14)) in_X4 rfl q268 rfl (Nat.le_of_ble_eq_true rfl) (fun _ h9 => h9) rfl dX1_write_61 ?_
        refine g_iload_n B 2 4 dX1_write_64 rfl rfl ?_
        refine g_iald B 7 j.toNatClampNeg rfl rfl (ix_in kr_13 (by decide)) dX1_write_65 ?_
        refine g_topi (fun x_19 ex_19 => ?_)
        refine g_istore B [(8, .int x_19), (7, .int 1), (6, .ref (ad 11)), (0, .ref (ad 0)), (1, .int 1), (2, .int j), (3, .int pi), (4, .int fo), (5, .int ga)] dX1_write_66 (Nat.le_of_ble_eq_true rfl) rfl ?_
        refine g_aload B 2 dX1_write_68 rfl ?_
        refine g_getN (C := RX4) (T := TX4) (N := 4) B 3 4 1 (.ref (ad 14)) in_X4 rfl q268 rfl (Nat.le_of_ble_eq_true rfl) (fun _ h9 => h9) rfl dX1_write_70 ?_
        refine g_iload_n B 2 5 dX1_write_73 rfl rfl ?_
        refine g_iload_n B 3 6 dX1_write_74 rfl rfl ?_
        refine g_iast B 7 j.toNatClampNeg [((ad 0), cM ad e0 mi lo su), ((ad 8), cA (ad 9) al3), ((ad 9), .inl (g.2.2.1, 10, .inr (.inr (.inr (.inr (tq ad)))))), ((ad 10), cT (ad 13) (ad 16) (ad 19) (tr 0)), ((ad 11), cT (ad 14) (ad 17) (ad 20) (tr 1)), ((ad 12), cT (ad 15) (ad 18) (ad 21) (tr 2)), ((ad 13), .inl (g.2.1, 8, .inl (tw 0 0))), ((ad 14), .inl (g.2.1, 8, .inl (upd (tw 1 0) j.toNatClampNeg pi))), ((ad 15), .inl (g.2.1, 8, .inl (tw 2 0))), ((ad 16), .inl (g.2.1, 8, .inl (tw 0 1))), ((ad 17), .inl (g.2.1, 8, .inl (tw 1 1))), ((ad 18), .inl (g.2.1, 8, .inl (tw 2 1))), ((ad 19), .inl (g.2.1, 8, .inl (tw 0 2))), ((ad 20), .inl (g.2.1, 8, .inl (tw 1 2))), ((ad 21), .inl (g.2.1, 8, .inl (tw 2 2)))] rfl rfl (ix_in kr_13 (by decide)) rfl dX1_write_75 ?_
        refine g_aload B 2 dX1_write_76 rfl ?_
        refine g_getN (C := RX4) (T := TX4) (N := 4) B 3 4 2 (.ref (ad 17)) in_X4 rfl q271 rfl (Nat.le_of_ble_eq_true rfl) (fun _ h9 => h9) rfl dX1_write_78 ?_
        refine g_iload_n B 2 5 dX1_write_81 rfl rfl ?_
        refine g_iload B 1 dX1_write_82 rfl ?_
        refine g_if_eq_F (tgt := 91) B dX1_write_84 (by decide) (by decide) ?_
        refine g_iconst (v := 0) B dX1_write_87 kc_0 ?_
        refine g_goto (tgt := 93) B dX1_write_88 (by decide) ?_
        refine g_iast B 10 j.toNatClampNeg [((ad 0), cM ad e0 mi lo su), ((ad 8), cA (ad 9) al3), ((ad 9), .inl (g.2.2.1, 10, .inr (.inr (.inr (.inr (tq ad)))))), ((ad 10), cT (ad 13) (ad 16) (ad 19) (tr 0)), ((ad 11), cT (ad 14) (ad 17) (ad 20) (tr 1)), ((ad 12), cT (ad 15) (ad 18) (ad 21) (tr 2)), ((ad 13), .inl (g.2.1, 8, .inl (tw 0 0))), ((ad 14), .inl (g.2.1, 8, .inl (upd (tw 1 0) j.toNatClampNeg pi))), ((ad 15), .inl (g.2.1, 8, .inl (tw 2 0))), ((ad 16), .inl (g.2.1, 8, .inl (tw 0 1))), ((ad 17), .inl (g.2.1, 8, .inl (upd (tw 1 1) j.toNatClampNeg 0))), ((ad 18), .inl (g.2.1, 8, .inl (tw 2 1))), ((ad 19), .inl (g.2.1, 8, .inl (tw 0 2))), ((ad 20), .inl (g.2.1, 8, .inl (tw 1 2))), ((ad 21), .inl (g.2.1, 8, .inl (tw 2 2)))] rfl rfl (ix_in kr_13 (by decide)) rfl dX1_write_93 ?_
        refine g_aload B 2 dX1_write_94 rfl ?_
        refine g_getN (C := RX4) (T := TX4) (N := 4) B 3 4 3 (.ref (ad 20)) in_X4 rfl q274 rfl (Nat.le_of_ble_eq_true rfl) (fun _ h9 => h9) rfl dX1_write_96 ?_
        refine g_iload_n B 2 5 dX1_write_99 rfl rfl ?_
        refine g_iload B 1 dX1_write_100 rfl ?_
        refine g_if_eq_F (tgt := 109) B dX1_write_102 (by decide) (by decide) ?_
        refine g_iconst (v := 0) B dX1_write_105 kc_0 ?_
        refine g_goto (tgt := 111) B dX1_write_106 (by decide) ?_
        refine g_iast B 13 j.toNatClampNeg [((ad 0), cM ad e0 mi lo su), ((ad 8), cA (ad 9) al3), ((ad 9), .inl (g.2.2.1, 10, .inr (.inr (.inr (.inr (tq ad)))))), ((ad 10), cT (ad 13) (ad 16) (ad 19) (tr 0)), ((ad 11), cT (ad 14) (ad 17) (ad 20) (tr 1)), ((ad 12), cT (ad 15) (ad 18) (ad 21) (tr 2)), ((ad 13), .inl (g.2.1, 8, .inl (tw 0 0))), ((ad 14), .inl (g.2.1, 8, .inl (upd (tw 1 0) j.toNatClampNeg pi))), ((ad 15), .inl (g.2.1, 8, .inl (tw 2 0))), ((ad 16), .inl (g.2.1, 8, .inl (tw 0 1))), ((ad 17), .inl (g.2.1, 8, .inl (upd (tw 1 1) j.toNatClampNeg 0))), ((ad 18), .inl (g.2.1, 8, .inl (tw 2 1))), ((ad 19), .inl (g.2.1, 8, .inl (tw 0 2))), ((ad 20), .inl (g.2.1, 8, .inl (upd (tw 1 2) j.toNatClampNeg 0))), ((ad 21), .inl (g.2.1, 8, .inl (tw 2 2)))] rfl rfl (ix_in kr_13 (by decide)) rfl dX1_write_111 ?_
        refine g_iload B 0 dX1_write_112 rfl ?_
        subst ex_19
        exact g_xiret B hr dX1_write_114 (Nat.le_of_ble_eq_true rfl) (Nat.le_of_ble_eq_true rfl) () ⟨(by first | (simp only [k_write, if_pos b_1, te_3, if_pos kr_13, if_pos kr_14, if_pos c_15]; done) | (simp only [k_write, if_pos b_1, te_3, if_pos kr_13, if_pos kr_14, if_pos c_15]; rfl) | rfl), (by first | (simp only [s_wr, if_pos b_1, te_3, if_pos kr_13, if_pos kr_14, if_pos c_15]; done) | (simp only [s_wr, if_pos b_1, te_3, if_pos kr_13, if_pos kr_14, if_pos c_15]; rfl) | rfl)⟩ [0, 1, 2, 3, 4, 5, 6, 7, 8, 9, 10, 11, 12, 13, 14] rfl (by first | (simp only [s_wr, if_pos b_1, te_3, if_pos kr_13, if_pos kr_14, if_pos c_15]; rfl) | rfl | (rw [e_3]; rfl))
    · skip
      replace e_3 : t = 2 := e_3
      have te_3 : t.toNatClampNeg = 2 := by rw [e_3]; decide
      refine g_lvq (lv' := [(0, .ref (ad 0)), (1, .int 2), (2, .int j), (3, .int pi), (4, .int fo), (5, .int ga)]) (by rw [e_3]) ?_
      refine g_aload_n B 0 0 dX1_write_0 rfl rfl ?_
      refine g_iload_n B 1 1 dX1_write_1 rfl rfl ?_
      refine g_cuV_q (C := RX1) (T := TX1) (N := 17) (As := [.int 2]) B (m_X1_track l hst g ad e0 mi lo su 2 2 (by decide) (by decide) (tr 2)) 0 0 rfl rfl [0, 1, 2, 5] [] (lw_V q691 q693 qs13 q26 q694) nvX1_track rfl rfl rfl rfl (Nat.le_of_ble_eq_true rfl) dX1_write_2 ⟨Nat.le_of_ble_eq_true rfl, Nat.le_of_ble_eq_true rfl⟩ ⟨Nat.le_of_ble_eq_true rfl, Nat.le_of_ble_eq_true rfl⟩ (fun r_20 ur_20 hr_20 => ?_)
      obtain rfl : some (ad 12) = r_20 := (hr_20).symm
      refine g_eqs (st' := [.ref (ad 12)]) rfl ?_
      refine g_astore B [(6, .ref (ad 12)), (0, .ref (ad 0)), (1, .int 2), (2, .int j), (3, .int pi), (4, .int fo), (5, .int ga)] dX1_write_5 (Nat.le_of_ble_eq_true rfl) rfl ?_
      refine g_iload_n B 2 3 dX1_write_7 rfl rfl ?_
      refine g_bipush (v := 8) B dX1_write_8 kb_8 ?_
      refine g_xuS_v (As := [.int j, .int 8]) B (m_X1_requireIndex l hst g j 8) [] [] (lw_S q669 q670 q26 q671) nsX1_requireIndex rfl rfl rfl rfl (Nat.le_of_ble_eq_true rfl) dX1_write_10 ⟨Nat.le_of_ble_eq_true rfl, Nat.le_of_ble_eq_true rfl⟩ ⟨Nat.le_of_ble_eq_true rfl, Nat.le_of_ble_eq_true rfl⟩ (fun E hE => ?_) (fun ur_21 hr_21 => ?_)
      · skip
        have hK9 : ¬ (ix_k j 8) = 0 := by rw [hE.2]; decide
        exact g_xout B hT hA9 (Nat.le_of_ble_eq_true rfl) (Nat.le_of_ble_eq_true rfl) (Or.inl ⟨hE.1, (by first | exact hE.2 | (simp only [k_write, if_pos b_1, te_3, if_neg hK9]; done) | (simp only [k_write, if_pos b_1, te_3, if_neg hK9]; rfl) | rfl)⟩) [0, 1, 2, 3, 4, 5, 6, 7, 8, 9, 10, 11, 12, 13, 14] rfl rfl
      have kr_21 : (ix_k j 8) = 0 := hr_21
      refine g_iconst (v := (-1)) B dX1_write_13 kc_m1 ?_
      refine g_bipush (v := 47) B dX1_write_14 kb_47 ?_
      refine g_iload_n B 3 4 dX1_write_16 rfl rfl ?_
      refine g_xuS_v (As := [.int (-1), .int 47, .int pi]) B (m_X1_requireFrom l hst g (-1) 47 pi) [] [] (lw_S q580 q581 q26 q582) nsX1_requireFrom rfl rfl rfl rfl (Nat.le_of_ble_eq_true rfl) dX1_write_17 ⟨Nat.le_of_ble_eq_true rfl, Nat.le_of_ble_eq_true rfl⟩ ⟨Nat.le_of_ble_eq_true rfl, Nat.le_of_ble_eq_true rfl⟩ (fun E hE => ?_) (fun ur_22 hr_22 => ?_)
      · skip
        have hK9 : ¬ (fr_k (-1) 47 pi) = 0 := by rw [hE.2]; decide
        exact g_xout B hT hA9 (Nat.le_of_ble_eq_true rfl) (Nat.le_of_ble_eq_true rfl) (Or.inr ⟨hE.1, (by first | exact hE.2 | (simp only [k_write, if_pos b_1, te_3, if_pos kr_21, if_neg hK9]; done) | (simp only [k_write, if_pos b_1, te_3, if_pos kr_21, if_neg hK9]; rfl) | rfl)⟩) [0, 1, 2, 3, 4, 5, 6, 7, 8, 9, 10, 11, 12, 13, 14] rfl rfl
      have kr_22 : (fr_k (-1) 47 pi) = 0 := hr_22
      refine g_iload_n B 3 4 dX1_write_20 rfl rfl ?_
      refine g_iconst (v := (-1)) B dX1_write_21 kc_m1 ?_
      refine g_icmp_ne (tgt := 29) B dX1_write_22 (by decide) (fun c_23 => ?_) (fun c_23 => ?_)
      · skip
        refine g_iconst (v := 0) B dX1_write_29 kc_0 ?_
        refine g_istore B [(7, .int 0), (6, .ref (ad 12)), (0, .ref (ad 0)), (1, .int 2), (2, .int j), (3, .int pi), (4, .int fo), (5, .int ga)] dX1_write_30 (Nat.le_of_ble_eq_true rfl) rfl ?_
        refine g_iload B 0 dX1_write_32 rfl ?_
        refine g_if_ne_F (tgt := 45) B dX1_write_34 (by decide) (by decide) ?_
        refine g_iconst (v := 1) B dX1_write_37 kc_1 ?_
        refine g_bipush (v := 127) B dX1_write_38 kb_127 ?_
        refine g_iload B 6 dX1_write_40 rfl ?_
        refine g_xuS_v (As := [.int 1, .int 127, .int fo]) B (m_X1_requireFrom l hst g 1 127 fo) [] [] (lw_S q580 q581 q26 q582) nsX1_requireFrom rfl rfl rfl rfl (Nat.le_of_ble_eq_true rfl) dX1_write_42 ⟨Nat.le_of_ble_eq_true rfl, Nat.le_of_ble_eq_true rfl⟩ ⟨Nat.le_of_ble_eq_true rfl, Nat.le_of_ble_eq_true rfl⟩ (fun E hE => ?_) (fun ur_24 hr_24 => ?_)
        · skip
          have hK9 : ¬ (fr_k 1 127 fo) = 0 := by rw [hE.2]; decide
          exact g_xout B hT hA9 (Nat.le_of_ble_eq_true rfl) (Nat.le_of_ble_eq_true rfl) (Or.inr ⟨hE.1, (by first | exact hE.2 | (simp only [k_write, if_pos b_1, te_3, if_pos kr_21, if_pos kr_22, if_neg c_23, if_neg hK9]; done) | (simp only [k_write, if_pos b_1, te_3, if_pos kr_21, if_pos kr_22, if_neg c_23, if_neg hK9]; rfl) | rfl)⟩) [0, 1, 2, 3, 4, 5, 6, 7, 8, 9, 10, 11, 12, 13, 14] rfl rfl
        have kr_24 : (fr_k 1 127 fo) = 0 := hr_24
        refine g_iload B 0 dX1_write_45 rfl ?_
        refine g_if_ne_F (tgt := 59) B dX1_write_47 (by decide) (by decide) ?_
        refine g_iconst (v := 1) B dX1_write_50 kc_1 ?_
        refine g_sipush (v := 200) B dX1_write_51 ks_200 ?_
        refine g_iload B 7 dX1_write_54 rfl ?_
        refine g_xuS_v (As := [.int 1, .int 200, .int ga]) B (m_X1_requireFrom l hst g 1 200 ga) [] [] (lw_S q580 q581 q26 q582) nsX1_requireFrom rfl rfl rfl rfl (Nat.le_of_ble_eq_true rfl) dX1_write_56 ⟨Nat.le_of_ble_eq_true rfl, Nat.le_of_ble_eq_true rfl⟩ ⟨Nat.le_of_ble_eq_true rfl, Nat.le_of_ble_eq_true rfl⟩ (fun E hE => ?_) (fun ur_25 hr_25 => ?_)
        · skip
          have hK9 : ¬ (fr_k 1 200 ga) = 0 := by rw [hE.2]; decide
          exact g_xout B hT hA9 (Nat.le_of_ble_eq_true rfl) (Nat.le_of_ble_eq_true rfl) (Or.inr ⟨hE.1, (by first | exact hE.2 | (simp only [k_write, if_pos b_1, te_3, if_pos kr_21, if_pos kr_22, if_neg c_23, if_pos kr_24, if_neg hK9]; done) | (simp only [k_write, if_pos b_1, te_3, if_pos kr_21, if_pos kr_22, if_neg c_23, if_pos kr_24, if_neg hK9]; rfl) | rfl)⟩) [0, 1, 2, 3, 4, 5, 6, 7, 8, 9, 10, 11, 12, 13, 14] rfl rfl
        have kr_25 : (fr_k 1 200 ga) = 0 := hr_25
        refine g_aload B 1 dX1_write_59 rfl ?_
        refine g_getN (C := RX4) (T := TX4) (N := 4) B 3 5 1 (.ref (ad 15)) in_X4 rfl q268 rfl (Nat.le_of_ble_eq_true rfl) (fun _ h9 => h9) rfl dX1_write_61 ?_
        refine g_iload_n B 2 4 dX1_write_64 rfl rfl ?_
        refine g_iald B 8 j.toNatClampNeg rfl rfl (ix_in kr_21 (by decide)) dX1_write_65 ?_
        refine g_topi (fun x_26 ex_26 => ?_)
        refine g_istore B [(8, .int x_26), (7, .int 0), (6, .ref (ad 12)), (0, .ref (ad 0)), (1, .int 2), (2, .int j), (3, .int pi), (4, .int fo), (5, .int ga)] dX1_write_66 (Nat.le_of_ble_eq_true rfl) rfl ?_
        refine g_aload B 2 dX1_write_68 rfl ?_
        refine g_getN (C := RX4) (T := TX4) (N := 4) B 3 5 1 (.ref (ad 15)) in_X4 rfl q268 rfl (Nat.le_of_ble_eq_true rfl) (fun _ h9 => h9) rfl dX1_write_70 ?_
        refine g_iload_n B 2 5 dX1_write_73 rfl rfl ?_
        refine g_iload_n B 3 6 dX1_write_74 rfl rfl ?_
        refine g_iast B 8 j.toNatClampNeg [((ad 0), cM ad e0 mi lo su), ((ad 8), cA (ad 9) al3), ((ad 9), .inl (g.2.2.1, 10, .inr (.inr (.inr (.inr (tq ad)))))), ((ad 10), cT (ad 13) (ad 16) (ad 19) (tr 0)), ((ad 11), cT (ad 14) (ad 17) (ad 20) (tr 1)), ((ad 12), cT (ad 15) (ad 18) (ad 21) (tr 2)), ((ad 13), .inl (g.2.1, 8, .inl (tw 0 0))), ((ad 14), .inl (g.2.1, 8, .inl (tw 1 0))), ((ad 15), .inl (g.2.1, 8, .inl (upd (tw 2 0) j.toNatClampNeg pi))), ((ad 16), .inl (g.2.1, 8, .inl (tw 0 1))), ((ad 17), .inl (g.2.1, 8, .inl (tw 1 1))), ((ad 18), .inl (g.2.1, 8, .inl (tw 2 1))), ((ad 19), .inl (g.2.1, 8, .inl (tw 0 2))), ((ad 20), .inl (g.2.1, 8, .inl (tw 1 2))), ((ad 21), .inl (g.2.1, 8, .inl (tw 2 2)))] rfl rfl (ix_in kr_21 (by decide)) rfl dX1_write_75 ?_
        refine g_aload B 2 dX1_write_76 rfl ?_
        refine g_getN (C := RX4) (T := TX4) (N := 4) B 3 5 2 (.ref (ad 18)) in_X4 rfl q271 rfl (Nat.le_of_ble_eq_true rfl) (fun _ h9 => h9) rfl dX1_write_78 ?_
        refine g_iload_n B 2 5 dX1_write_81 rfl rfl ?_
        refine g_iload B 1 dX1_write_82 rfl ?_
        refine g_if_eq_T (tgt := 91) B dX1_write_84 (by decide) (by decide) ?_
        refine g_iload B 7 dX1_write_91 rfl ?_
        refine g_iast B 11 j.toNatClampNeg [((ad 0), cM ad e0 mi lo su), ((ad 8), cA (ad 9) al3), ((ad 9), .inl (g.2.2.1, 10, .inr (.inr (.inr (.inr (tq ad)))))), ((ad 10), cT (ad 13) (ad 16) (ad 19) (tr 0)), ((ad 11), cT (ad 14) (ad 17) (ad 20) (tr 1)), ((ad 12), cT (ad 15) (ad 18) (ad 21) (tr 2)), ((ad 13), .inl (g.2.1, 8, .inl (tw 0 0))), ((ad 14), .inl (g.2.1, 8, .inl (tw 1 0))), ((ad 15), .inl (g.2.1, 8, .inl (upd (tw 2 0) j.toNatClampNeg pi))), ((ad 16), .inl (g.2.1, 8, .inl (tw 0 1))), ((ad 17), .inl (g.2.1, 8, .inl (tw 1 1))), ((ad 18), .inl (g.2.1, 8, .inl (upd (tw 2 1) j.toNatClampNeg fo))), ((ad 19), .inl (g.2.1, 8, .inl (tw 0 2))), ((ad 20), .inl (g.2.1, 8, .inl (tw 1 2))), ((ad 21), .inl (g.2.1, 8, .inl (tw 2 2)))] rfl rfl (ix_in kr_21 (by decide)) rfl dX1_write_93 ?_
        refine g_aload B 2 dX1_write_94 rfl ?_
        refine g_getN (C := RX4) (T := TX4) (N := 4) B 3 5 3 (.ref (ad 21)) in_X4 rfl q274 rfl (Nat.le_of_ble_eq_true rfl) (fun _ h9 => h9) rfl dX1_write_96 ?_
        refine g_iload_n B 2 5 dX1_write_99 rfl rfl ?_
        refine g_iload B 1 dX1_write_100 rfl ?_
        refine g_if_eq_T (tgt := 109) B dX1_write_102 (by decide) (by decide) ?_
        refine g_iload B 8 dX1_write_109 rfl ?_
        refine g_iast B 14 j.toNatClampNeg [((ad 0), cM ad e0 mi lo su), ((ad 8), cA (ad 9) al3), ((ad 9), .inl (g.2.2.1, 10, .inr (.inr (.inr (.inr (tq ad)))))), ((ad 10), cT (ad 13) (ad 16) (ad 19) (tr 0)), ((ad 11), cT (ad 14) (ad 17) (ad 20) (tr 1)), ((ad 12), cT (ad 15) (ad 18) (ad 21) (tr 2)), ((ad 13), .inl (g.2.1, 8, .inl (tw 0 0))), ((ad 14), .inl (g.2.1, 8, .inl (tw 1 0))), ((ad 15), .inl (g.2.1, 8, .inl (upd (tw 2 0) j.toNatClampNeg pi))), ((ad 16), .inl (g.2.1, 8, .inl (tw 0 1))), ((ad 17), .inl (g.2.1, 8, .inl (tw 1 1))), ((ad 18), .inl (g.2.1, 8, .inl (upd (tw 2 1) j.toNatClampNeg fo))), ((ad 19), .inl (g.2.1, 8, .inl (tw 0 2))), ((ad 20), .inl (g.2.1, 8, .inl (tw 1 2))), ((ad 21), .inl (g.2.1, 8, .inl (upd (tw 2 2) j.toNatClampNeg ga)))] rfl rfl (ix_in kr_21 (by decide)) rfl dX1_write_111 ?_
        refine g_iload B 0 dX1_write_112 rfl ?_
        subst ex_26
        exact g_xiret B hr dX1_write_114 (Nat.le_of_ble_eq_true rfl) (Nat.le_of_ble_eq_true rfl) () ⟨(by first | (simp only [k_write, if_pos b_1, te_3, if_pos kr_21, if_pos kr_22, if_neg c_23, if_pos kr_24, if_pos kr_25]; done) | (simp only [k_write, if_pos b_1, te_3, if_pos kr_21, if_pos kr_22, if_neg c_23, if_pos kr_24, if_pos kr_25]; rfl) | rfl), (by first | (simp only [s_wr, if_pos b_1, te_3, if_pos kr_21, if_pos kr_22, if_neg c_23, if_pos kr_24, if_pos kr_25]; done) | (simp only [s_wr, if_pos b_1, te_3, if_pos kr_21, if_pos kr_22, if_neg c_23, if_pos kr_24, if_pos kr_25]; rfl) | rfl)⟩ [0, 1, 2, 3, 4, 5, 6, 7, 8, 9, 10, 11, 12, 13, 14] rfl (by first | (simp only [s_wr, if_pos b_1, te_3, if_pos kr_21, if_pos kr_22, if_neg c_23, if_pos kr_24, if_pos kr_25]; rfl) | rfl | (rw [e_3]; rfl))
      · skip
        refine g_iconst (v := 1) B dX1_write_25 kc_1 ?_
        refine g_goto (tgt := 30) B dX1_write_26 (by decide) ?_
        refine g_istore B [(7, .int 1), (6, .ref (ad 12)), (0, .ref (ad 0)), (1, .int 2), (2, .int j), (3, .int pi), (4, .int fo), (5, .int ga)] dX1_write_30 (Nat.le_of_ble_eq_true rfl) rfl ?_
        refine g_iload B 0 dX1_write_32 rfl ?_
        refine g_if_ne_T (tgt := 45) B dX1_write_34 (by decide) (by decide) ?_
        refine g_iload B 0 dX1_write_45 rfl ?_
        refine g_if_ne_T (tgt := 59) B dX1_write_47 (by decide) (by decide) ?_
        refine g_aload B 1 dX1_write_59 rfl ?_
        refine g_getN (C := RX4) (T := TX4) (N := 4) B 3 5 1 (.ref (ad 15)) in_X4 rfl q268 rfl (Nat.le_of_ble_eq_true rfl) (fun _ h9 => h9) rfl dX1_write_61 ?_
        refine g_iload_n B 2 4 dX1_write_64 rfl rfl ?_
        refine g_iald B 8 j.toNatClampNeg rfl rfl (ix_in kr_21 (by decide)) dX1_write_65 ?_
        refine g_topi (fun x_27 ex_27 => ?_)
        refine g_istore B [(8, .int x_27), (7, .int 1), (6, .ref (ad 12)), (0, .ref (ad 0)), (1, .int 2), (2, .int j), (3, .int pi), (4, .int fo), (5, .int ga)] dX1_write_66 (Nat.le_of_ble_eq_true rfl) rfl ?_
        refine g_aload B 2 dX1_write_68 rfl ?_
        refine g_getN (C := RX4) (T := TX4) (N := 4) B 3 5 1 (.ref (ad 15)) in_X4 rfl q268 rfl (Nat.le_of_ble_eq_true rfl) (fun _ h9 => h9) rfl dX1_write_70 ?_
        refine g_iload_n B 2 5 dX1_write_73 rfl rfl ?_
        refine g_iload_n B 3 6 dX1_write_74 rfl rfl ?_
        refine g_iast B 8 j.toNatClampNeg [((ad 0), cM ad e0 mi lo su), ((ad 8), cA (ad 9) al3), ((ad 9), .inl (g.2.2.1, 10, .inr (.inr (.inr (.inr (tq ad)))))), ((ad 10), cT (ad 13) (ad 16) (ad 19) (tr 0)), ((ad 11), cT (ad 14) (ad 17) (ad 20) (tr 1)), ((ad 12), cT (ad 15) (ad 18) (ad 21) (tr 2)), ((ad 13), .inl (g.2.1, 8, .inl (tw 0 0))), ((ad 14), .inl (g.2.1, 8, .inl (tw 1 0))), ((ad 15), .inl (g.2.1, 8, .inl (upd (tw 2 0) j.toNatClampNeg pi))), ((ad 16), .inl (g.2.1, 8, .inl (tw 0 1))), ((ad 17), .inl (g.2.1, 8, .inl (tw 1 1))), ((ad 18), .inl (g.2.1, 8, .inl (tw 2 1))), ((ad 19), .inl (g.2.1, 8, .inl (tw 0 2))), ((ad 20), .inl (g.2.1, 8, .inl (tw 1 2))), ((ad 21), .inl (g.2.1, 8, .inl (tw 2 2)))] rfl rfl (ix_in kr_21 (by decide)) rfl dX1_write_75 ?_
        refine g_aload B 2 dX1_write_76 rfl ?_
        refine g_getN (C := RX4) (T := TX4) (N := 4) B 3 5 2 (.ref (ad 18)) in_X4 rfl q271 rfl (Nat.le_of_ble_eq_true rfl) (fun _ h9 => h9) rfl dX1_write_78 ?_
        refine g_iload_n B 2 5 dX1_write_81 rfl rfl ?_
        refine g_iload B 1 dX1_write_82 rfl ?_
        refine g_if_eq_F (tgt := 91) B dX1_write_84 (by decide) (by decide) ?_
        refine g_iconst (v := 0) B dX1_write_87 kc_0 ?_
        refine g_goto (tgt := 93) B dX1_write_88 (by decide) ?_
        refine g_iast B 11 j.toNatClampNeg [((ad 0), cM ad e0 mi lo su), ((ad 8), cA (ad 9) al3), ((ad 9), .inl (g.2.2.1, 10, .inr (.inr (.inr (.inr (tq ad)))))), ((ad 10), cT (ad 13) (ad 16) (ad 19) (tr 0)), ((ad 11), cT (ad 14) (ad 17) (ad 20) (tr 1)), ((ad 12), cT (ad 15) (ad 18) (ad 21) (tr 2)), ((ad 13), .inl (g.2.1, 8, .inl (tw 0 0))), ((ad 14), .inl (g.2.1, 8, .inl (tw 1 0))), ((ad 15), .inl (g.2.1, 8, .inl (upd (tw 2 0) j.toNatClampNeg pi))), ((ad 16), .inl (g.2.1, 8, .inl (tw 0 1))), ((ad 17), .inl (g.2.1, 8, .inl (tw 1 1))), ((ad 18), .inl (g.2.1, 8, .inl (upd (tw 2 1) j.toNatClampNeg 0))), ((ad 19), .inl (g.2.1, 8, .inl (tw 0 2))), ((ad 20), .inl (g.2.1, 8, .inl (tw 1 2))), ((ad 21), .inl (g.2.1, 8, .inl (tw 2 2)))] rfl rfl (ix_in kr_21 (by decide)) rfl dX1_write_93 ?_
        refine g_aload B 2 dX1_write_94 rfl ?_
        refine g_getN (C := RX4) (T := TX4) (N := 4) B 3 5 3 (.ref (ad 21)) in_X4 rfl q274 rfl (Nat.le_of_ble_eq_true rfl) (fun _ h9 => h9) rfl dX1_write_96 ?_
        refine g_iload_n B 2 5 dX1_write_99 rfl rfl ?_
        refine g_iload B 1 dX1_write_100 rfl ?_
        refine g_if_eq_F (tgt := 109) B dX1_write_102 (by decide) (by decide) ?_
        refine g_iconst (v := 0) B dX1_write_105 kc_0 ?_
        refine g_goto (tgt := 111) B dX1_write_106 (by decide) ?_
        refine g_iast B 14 j.toNatClampNeg [((ad 0), cM ad e0 mi lo su), ((ad 8), cA (ad 9) al3), ((ad 9), .inl (g.2.2.1, 10, .inr (.inr (.inr (.inr (tq ad)))))), ((ad 10), cT (ad 13) (ad 16) (ad 19) (tr 0)), ((ad 11), cT (ad 14) (ad 17) (ad 20) (tr 1)), ((ad 12), cT (ad 15) (ad 18) (ad 21) (tr 2)), ((ad 13), .inl (g.2.1, 8, .inl (tw 0 0))), ((ad 14), .inl (g.2.1, 8, .inl (tw 1 0))), ((ad 15), .inl (g.2.1, 8, .inl (upd (tw 2 0) j.toNatClampNeg pi))), ((ad 16), .inl (g.2.1, 8, .inl (tw 0 1))), ((ad 17), .inl (g.2.1, 8, .inl (tw 1 1))), ((ad 18), .inl (g.2.1, 8, .inl (upd (tw 2 1) j.toNatClampNeg 0))), ((ad 19), .inl (g.2.1, 8, .inl (tw 0 2))), ((ad 20), .inl (g.2.1, 8, .inl (tw 1 2))), ((ad 21), .inl (g.2.1, 8, .inl (upd (tw 2 2) j.toNatClampNeg 0)))] rfl rfl (ix_in kr_21 (by decide)) rfl dX1_write_111 ?_
        refine g_iload B 0 dX1_write_112 rfl ?_
        subst ex_27
        exact g_xiret B hr dX1_write_114 (Nat.le_of_ble_eq_true rfl) (Nat.le_of_ble_eq_true rfl) () ⟨(by first | (simp only [k_write, if_pos b_1, te_3, if_pos kr_21, if_pos kr_22, if_pos c_23]; done) | (simp only [k_write, if_pos b_1, te_3, if_pos kr_21, if_pos kr_22, if_pos c_23]; rfl) | rfl), (by first | (simp only [s_wr, if_pos b_1, te_3, if_pos kr_21, if_pos kr_22, if_pos c_23]; done) | (simp only [s_wr, if_pos b_1, te_3, if_pos kr_21, if_pos kr_22, if_pos c_23]; rfl) | rfl)⟩ [0, 1, 2, 3, 4, 5, 6, 7, 8, 9, 10, 11, 12, 13, 14] rfl (by first | (simp only [s_wr, if_pos b_1, te_3, if_pos kr_21, if_pos kr_22, if_pos c_23]; rfl) | rfl | (rw [e_3]; rfl))
  · skip
    refine g_aload_n B 0 0 dX1_write_0 rfl rfl ?_
    refine g_iload_n B 1 1 dX1_write_1 rfl rfl ?_
    refine g_xuV_q (C := RX1) (T := TX1) (N := 17) (As := [.int t]) B (m_X1_track_b l hst g ad e0 mi lo su t b_1) 0 0 rfl rfl [0] [] (lw_V q691 q693 qs13 q26 q694) nvX1_track rfl rfl rfl rfl (Nat.le_of_ble_eq_true rfl) dX1_write_2 ⟨Nat.le_of_ble_eq_true rfl, Nat.le_of_ble_eq_true rfl⟩ ⟨Nat.le_of_ble_eq_true rfl, Nat.le_of_ble_eq_true rfl⟩ (fun E hE => ?_) (fun r_28 ur_28 hr_28 => ?_)
    · skip
      have hK9 : ¬ (ix_k t 3) = 0 := by rw [hE.2]; decide
      exact g_xout B hT hA9 (Nat.le_of_ble_eq_true rfl) (Nat.le_of_ble_eq_true rfl) (Or.inl ⟨hE.1, (by first | exact hE.2 | (simp only [k_write, if_neg b_1, if_neg hK9]; done) | (simp only [k_write, if_neg b_1, if_neg hK9]; rfl) | rfl)⟩) [0, 1, 2, 3, 4, 5, 6, 7, 8, 9, 10, 11, 12, 13, 14] rfl rfl
    have kr_28 : (ix_k t 3) = 0 := hr_28.1
    replace hr_28 := hr_28.2
    exact absurd kr_28 b_1

set_option maxHeartbeats 4000000 in
set_option maxRecDepth 100000 in
theorem m_X1_setTrack (l : Launch) (hst : l.stackTraces = false) (g : gG) (ad : Nat → Nat) (e0 : Nat) (mi : Nat → Int32) (lo su : Int64) (tr ig : Nat → Nat → Int32) (tw : Nat → Nat → Nat → Int32) (t i : Int32) : gXi l yX1_setTrack cX1_setTrack 5 .int 8 131 8 48 g [((ad 0), cM ad e0 mi lo su), ((ad 8), cA (ad 9) al3), ((ad 9), .inl (g.2.2.1, 10, .inr (.inr (.inr (.inr (tq ad)))))), ((ad 10), cT (ad 13) (ad 16) (ad 19) (tr 0)), ((ad 11), cT (ad 14) (ad 17) (ad 20) (tr 1)), ((ad 12), cT (ad 15) (ad 18) (ad 21) (tr 2)), ((ad 13), .inl (g.2.1, 8, .inl (tw 0 0))), ((ad 14), .inl (g.2.1, 8, .inl (tw 1 0))), ((ad 15), .inl (g.2.1, 8, .inl (tw 2 0))), ((ad 16), .inl (g.2.1, 8, .inl (tw 0 1))), ((ad 17), .inl (g.2.1, 8, .inl (tw 1 1))), ((ad 18), .inl (g.2.1, 8, .inl (tw 2 1))), ((ad 19), .inl (g.2.1, 8, .inl (tw 0 2))), ((ad 20), .inl (g.2.1, 8, .inl (tw 1 2))), ((ad 21), .inl (g.2.1, 8, .inl (tw 2 2))), ((ad 2), cA (ad 3) al4), ((ad 3), .inl (g.2.2.1, 10, .inr (.inr (.inr (.inr (iq ad)))))), ((ad 4), cI (ig 0)), ((ad 5), cI (ig 1)), ((ad 6), cI (ig 2)), ((ad 7), cI (ig 3))] [.ref (ad 0), .int t, .int i] (fun (r : Int32) (_ : Unit) => (k_track t i) = 0 ∧ r = tr t.toNatClampNeg 0) (fun _ : Unit => [((ad 0), cM ad e0 mi lo su), ((ad 8), cA (ad 9) al3), ((ad 9), .inl (g.2.2.1, 10, .inr (.inr (.inr (.inr (tq ad)))))), ((ad 10), cT (ad 13) (ad 16) (ad 19) ((va_up tr t.toNatClampNeg (upd (tr t.toNatClampNeg) 0 i)) 0)), ((ad 11), cT (ad 14) (ad 17) (ad 20) ((va_up tr t.toNatClampNeg (upd (tr t.toNatClampNeg) 0 i)) 1)), ((ad 12), cT (ad 15) (ad 18) (ad 21) ((va_up tr t.toNatClampNeg (upd (tr t.toNatClampNeg) 0 i)) 2)), ((ad 13), .inl (g.2.1, 8, .inl (tw 0 0))), ((ad 14), .inl (g.2.1, 8, .inl (tw 1 0))), ((ad 15), .inl (g.2.1, 8, .inl (tw 2 0))), ((ad 16), .inl (g.2.1, 8, .inl (tw 0 1))), ((ad 17), .inl (g.2.1, 8, .inl (tw 1 1))), ((ad 18), .inl (g.2.1, 8, .inl (tw 2 1))), ((ad 19), .inl (g.2.1, 8, .inl (tw 0 2))), ((ad 20), .inl (g.2.1, 8, .inl (tw 1 2))), ((ad 21), .inl (g.2.1, 8, .inl (tw 2 2))), ((ad 2), cA (ad 3) al4), ((ad 3), .inl (g.2.2.1, 10, .inr (.inr (.inr (.inr (iq ad)))))), ((ad 4), cI (ig 0)), ((ad 5), cI (ig 1)), ((ad 6), cI (ig 2)), ((ad 7), cI (ig 3))]) (fun E : String => E = eIO ∧ (k_track t i) = 1) := by
  intro sz
  refine g_xent (by decide) hst [(0, .ref (ad 0)), (1, .int t), (2, .int i)] (Nat.le_of_ble_eq_true rfl) rfl ?_
  intro p e s m below meth c B hr hnm hsz hT
  have B : gB p l s m ([.ref (ad 0), .int t, .int i] : List Value).toArray meth c RX1 cX1_setTrack 5 g (va_A [((ad 0), cM ad e0 mi lo su), ((ad 8), cA (ad 9) al3), ((ad 9), .inl (g.2.2.1, 10, .inr (.inr (.inr (.inr (tq ad)))))), ((ad 10), cT (ad 13) (ad 16) (ad 19) (tr 0)), ((ad 11), cT (ad 14) (ad 17) (ad 20) (tr 1)), ((ad 12), cT (ad 15) (ad 18) (ad 21) (tr 2)), ((ad 13), .inl (g.2.1, 8, .inl (tw 0 0))), ((ad 14), .inl (g.2.1, 8, .inl (tw 1 0))), ((ad 15), .inl (g.2.1, 8, .inl (tw 2 0))), ((ad 16), .inl (g.2.1, 8, .inl (tw 0 1))), ((ad 17), .inl (g.2.1, 8, .inl (tw 1 1))), ((ad 18), .inl (g.2.1, 8, .inl (tw 2 1))), ((ad 19), .inl (g.2.1, 8, .inl (tw 0 2))), ((ad 20), .inl (g.2.1, 8, .inl (tw 1 2))), ((ad 21), .inl (g.2.1, 8, .inl (tw 2 2))), ((ad 2), cA (ad 3) al4), ((ad 3), .inl (g.2.2.1, 10, .inr (.inr (.inr (.inr (iq ad)))))), ((ad 4), cI (ig 0)), ((ad 5), cI (ig 1)), ((ad 6), cI (ig 2)), ((ad 7), cI (ig 3))] sz) := B
  have hA9 : (va_A [((ad 0), cM ad e0 mi lo su), ((ad 8), cA (ad 9) al3), ((ad 9), .inl (g.2.2.1, 10, .inr (.inr (.inr (.inr (tq ad)))))), ((ad 10), cT (ad 13) (ad 16) (ad 19) (tr 0)), ((ad 11), cT (ad 14) (ad 17) (ad 20) (tr 1)), ((ad 12), cT (ad 15) (ad 18) (ad 21) (tr 2)), ((ad 13), .inl (g.2.1, 8, .inl (tw 0 0))), ((ad 14), .inl (g.2.1, 8, .inl (tw 1 0))), ((ad 15), .inl (g.2.1, 8, .inl (tw 2 0))), ((ad 16), .inl (g.2.1, 8, .inl (tw 0 1))), ((ad 17), .inl (g.2.1, 8, .inl (tw 1 1))), ((ad 18), .inl (g.2.1, 8, .inl (tw 2 1))), ((ad 19), .inl (g.2.1, 8, .inl (tw 0 2))), ((ad 20), .inl (g.2.1, 8, .inl (tw 1 2))), ((ad 21), .inl (g.2.1, 8, .inl (tw 2 2))), ((ad 2), cA (ad 3) al4), ((ad 3), .inl (g.2.2.1, 10, .inr (.inr (.inr (.inr (iq ad)))))), ((ad 4), cI (ig 0)), ((ad 5), cI (ig 1)), ((ad 6), cI (ig 2)), ((ad 7), cI (ig 3))] sz) = va_A [((ad 0), cM ad e0 mi lo su), ((ad 8), cA (ad 9) al3), ((ad 9), .inl (g.2.2.1, 10, .inr (.inr (.inr (.inr (tq ad)))))), ((ad 10), cT (ad 13) (ad 16) (ad 19) (tr 0)), ((ad 11), cT (ad 14) (ad 17) (ad 20) (tr 1)), ((ad 12), cT (ad 15) (ad 18) (ad 21) (tr 2)), ((ad 13), .inl (g.2.1, 8, .inl (tw 0 0))), ((ad 14), .inl (g.2.1, 8, .inl (tw 1 0))), ((ad 15), .inl (g.2.1, 8, .inl (tw 2 0))), ((ad 16), .inl (g.2.1, 8, .inl (tw 0 1))), ((ad 17), .inl (g.2.1, 8, .inl (tw 1 1))), ((ad 18), .inl (g.2.1, 8, .inl (tw 2 1))), ((ad 19), .inl (g.2.1, 8, .inl (tw 0 2))), ((ad 20), .inl (g.2.1, 8, .inl (tw 1 2))), ((ad 21), .inl (g.2.1, 8, .inl (tw 2 2))), ((ad 2), cA (ad 3) al4), ((ad 3), .inl (g.2.2.1, 10, .inr (.inr (.inr (.inr (iq ad)))))), ((ad 4), cI (ig 0)), ((ad 5), cI (ig 1)), ((ad 6), cI (ig 2)), ((ad 7), cI (ig 3))] s.heap.size := by rw [hsz]
  subst hsz
  by_cases b_1 : ix_k t 3 = 0
  · skip
    obtain ⟨q_2, hq_2, e_3⟩ := ix_nat (N := 3) b_1 (by decide) (by decide)
    rcases (show q_2 = 0 ∨ q_2 = 1 ∨ q_2 = 2 by omega) with rfl | rfl | rfl
    · skip
      replace e_3 : t = 0 := e_3
      have te_3 : t.toNatClampNeg = 0 := by rw [e_3]; decide
      refine g_lvq (lv' := [(0, .ref (ad 0)), (1, .int 0), (2, .int i)]) (by rw [e_3]) ?_
      refine g_aload_n B 0 0 dX1_setTrack_0 rfl rfl ?_
      refine g_iload_n B 1 1 dX1_setTrack_1 rfl rfl ?_
      refine g_cuV_q (C := RX1) (T := TX1) (N := 17) (As := [.int 0]) B (m_X1_track l hst g ad e0 mi lo su 0 0 (by decide) (by decide) (tr 0)) 0 0 rfl rfl [0, 1, 2, 3] [] (lw_V q691 q693 qs13 q26 q694) nvX1_track rfl rfl rfl rfl (Nat.le_of_ble_eq_true rfl) dX1_setTrack_2 ⟨Nat.le_of_ble_eq_true rfl, Nat.le_of_ble_eq_true rfl⟩ ⟨Nat.le_of_ble_eq_true rfl, Nat.le_of_ble_eq_true rfl⟩ (fun r_4 ur_4 hr_4 => ?_)
      obtain rfl : some (ad 10) = r_4 := (hr_4).symm
      refine g_eqs (st' := [.ref (ad 10)]) rfl ?_
      refine g_astore_n B 3 [(3, .ref (ad 10)), (0, .ref (ad 0)), (1, .int 0), (2, .int i)] dX1_setTrack_5 rfl (Nat.le_of_ble_eq_true rfl) rfl ?_
      by_cases b_5 : ix_k i 4 = 0
      · skip
        obtain ⟨q_6, hq_6, e_7⟩ := ix_nat (N := 4) b_5 (by decide) (by decide)
        rcases (show q_6 = 0 ∨ q_6 = 1 ∨ q_6 = 2 ∨ q_6 = 3 by omega) with rfl | rfl | rfl | rfl
        · skip
          replace e_7 : i = 0 := e_7
          have te_7 : i.toNatClampNeg = 0 := by rw [e_7]; decide
          refine g_lvq (lv' := [(3, .ref (ad 10)), (0, .ref (ad 0)), (1, .int 0), (2, .int 0)]) (by rw [e_7]) ?_
          refine g_aload_n B 0 1 dX1_setTrack_6 rfl rfl ?_
          refine g_iload_n B 2 3 dX1_setTrack_7 rfl rfl ?_
          refine g_cuV_q (C := RX1) (T := TX1) (N := 17) (As := [.int 0]) B (m_X1_instrument l hst g ad e0 mi lo su 0 0 (by decide) (by decide) (ig 0)) 0 0 rfl rfl [0, 15, 16, 17] [] (lw_V q764 q766 qs14 q26 q767) nvX1_instrument rfl rfl rfl rfl (Nat.le_of_ble_eq_true rfl) dX1_setTrack_8 ⟨Nat.le_of_ble_eq_true rfl, Nat.le_of_ble_eq_true rfl⟩ ⟨Nat.le_of_ble_eq_true rfl, Nat.le_of_ble_eq_true rfl⟩ (fun r_8 ur_8 hr_8 => ?_)
          obtain rfl : some (ad 4) = r_8 := (hr_8).symm
          refine g_eqs (st' := [.ref (ad 4)]) rfl ?_
          refine g_pop B dX1_setTrack_11 rfl ?_
          refine g_aload_n B 3 0 dX1_setTrack_12 rfl rfl ?_
          refine g_getN (C := RX4) (T := TX4) (N := 4) B 3 3 0 (.int ((tr 0) 0)) in_X4 rfl q265 rfl (Nat.le_of_ble_eq_true rfl) (fun _ h9 => h9) rfl dX1_setTrack_13 ?_
          refine g_istore B [(4, .int ((tr 0) 0)), (3, .ref (ad 10)), (0, .ref (ad 0)), (1, .int 0), (2, .int 0)] dX1_setTrack_16 (Nat.le_of_ble_eq_true rfl) rfl ?_
          refine g_aload_n B 3 1 dX1_setTrack_18 rfl rfl ?_
          refine g_iload_n B 2 4 dX1_setTrack_19 rfl rfl ?_
          refine g_putN (C := RX4) (T := TX4) (N := 4) (ty := .int) (v := .int 0) B 3 3 0 [((ad 0), cM ad e0 mi lo su), ((ad 8), cA (ad 9) al3), ((ad 9), .inl (g.2.2.1, 10, .inr (.inr (.inr (.inr (tq ad)))))), ((ad 10), cT (ad 13) (ad 16) (ad 19) (upd (tr 0) 0 0)), ((ad 11), cT (ad 14) (ad 17) (ad 20) (tr 1)), ((ad 12), cT (ad 15) (ad 18) (ad 21) (tr 2)), ((ad 13), .inl (g.2.1, 8, .inl (tw 0 0))), ((ad 14), .inl (g.2.1, 8, .inl (tw 1 0))), ((ad 15), .inl (g.2.1, 8, .inl (tw 2 0))), ((ad 16), .inl (g.2.1, 8, .inl (tw 0 1))), ((ad 17), .inl (g.2.1, 8, .inl (tw 1 1))), ((ad 18), .inl (g.2.1, 8, .inl (tw 2 1))), ((ad 19), .inl (g.2.1, 8, .inl (tw 0 2))), ((ad 20), .inl (g.2.1, 8, .inl (tw 1 2))), ((ad 21), .inl (g.2.1, 8, .inl (tw 2 2))), ((ad 2), cA (ad 3) al4), ((ad 3), .inl (g.2.2.1, 10, .inr (.inr (.inr (.inr (iq ad)))))), ((ad 4), cI (ig 0)), ((ad 5), cI (ig 1)), ((ad 6), cI (ig 2)), ((ad 7), cI (ig 3))] in_X4 tyX4 tyX4_ok nmX4 rfl q265 rfl (Nat.le_of_ble_eq_true rfl) (fun _ h9 => h9) rfl rfl rfl rfl (Nat.le_of_ble_eq_true rfl) rfl dX1_setTrack_20 ?_
          refine g_iload B 0 dX1_setTrack_23 rfl ?_
          exact g_xiret B hr dX1_setTrack_25 (Nat.le_of_ble_eq_true rfl) (Nat.le_of_ble_eq_true rfl) () ⟨(by first | (simp only [k_track, if_pos b_1, te_3, if_pos b_5, te_7]; done) | (simp only [k_track, if_pos b_1, te_3, if_pos b_5, te_7]; rfl) | rfl), (by first | (simp only [if_pos b_1, te_3, if_pos b_5, te_7]; done) | (simp only [if_pos b_1, te_3, if_pos b_5, te_7]; rfl) | rfl)⟩ [0, 1, 2, 3, 4, 5, 6, 7, 8, 9, 10, 11, 12, 13, 14, 15, 16, 17, 18, 19, 20] rfl (by first | (simp only [if_pos b_1, te_3, if_pos b_5, te_7]; rfl) | rfl | (rw [e_3, e_7]; rfl))
        · skip
          replace e_7 : i = 1 := e_7
          have te_7 : i.toNatClampNeg = 1 := by rw [e_7]; decide
          refine g_lvq (lv' := [(3, .ref (ad 10)), (0, .ref (ad 0)), (1, .int 0), (2, .int 1)]) (by rw [e_7]) ?_
          refine g_aload_n B 0 1 dX1_setTrack_6 rfl rfl ?_
          refine g_iload_n B 2 3 dX1_setTrack_7 rfl rfl ?_
          refine g_cuV_q (C := RX1) (T := TX1) (N := 17) (As := [.int 1]) B (m_X1_instrument l hst g ad e0 mi lo su 1 1 (by decide) (by decide) (ig 1)) 0 0 rfl rfl [0, 15, 16, 18] [] (lw_V q764 q766 qs14 q26 q767) nvX1_instrument rfl rfl rfl rfl (Nat.le_of_ble_eq_true rfl) dX1_setTrack_8 ⟨Nat.le_of_ble_eq_true rfl, Nat.le_of_ble_eq_true rfl⟩ ⟨Nat.le_of_ble_eq_true rfl, Nat.le_of_ble_eq_true rfl⟩ (fun r_9 ur_9 hr_9 => ?_)
          obtain rfl : some (ad 5) = r_9 := (hr_9).symm
          refine g_eqs (st' := [.ref (ad 5)]) rfl ?_
          refine g_pop B dX1_setTrack_11 rfl ?_
          refine g_aload_n B 3 0 dX1_setTrack_12 rfl rfl ?_
          refine g_getN (C := RX4) (T := TX4) (N := 4) B 3 3 0 (.int ((tr 0) 0)) in_X4 rfl q265 rfl (Nat.le_of_ble_eq_true rfl) (fun _ h9 => h9) rfl dX1_setTrack_13 ?_
          refine g_istore B [(4, .int ((tr 0) 0)), (3, .ref (ad 10)), (0, .ref (ad 0)), (1, .int 0), (2, .int 1)] dX1_setTrack_16 (Nat.le_of_ble_eq_true rfl) rfl ?_
          refine g_aload_n B 3 1 dX1_setTrack_18 rfl rfl ?_
          refine g_iload_n B 2 4 dX1_setTrack_19 rfl rfl ?_
          refine g_putN (C := RX4) (T := TX4) (N := 4) (ty := .int) (v := .int 1) B 3 3 0 [((ad 0), cM ad e0 mi lo su), ((ad 8), cA (ad 9) al3), ((ad 9), .inl (g.2.2.1, 10, .inr (.inr (.inr (.inr (tq ad)))))), ((ad 10), cT (ad 13) (ad 16) (ad 19) (upd (tr 0) 0 1)), ((ad 11), cT (ad 14) (ad 17) (ad 20) (tr 1)), ((ad 12), cT (ad 15) (ad 18) (ad 21) (tr 2)), ((ad 13), .inl (g.2.1, 8, .inl (tw 0 0))), ((ad 14), .inl (g.2.1, 8, .inl (tw 1 0))), ((ad 15), .inl (g.2.1, 8, .inl (tw 2 0))), ((ad 16), .inl (g.2.1, 8, .inl (tw 0 1))), ((ad 17), .inl (g.2.1, 8, .inl (tw 1 1))), ((ad 18), .inl (g.2.1, 8, .inl (tw 2 1))), ((ad 19), .inl (g.2.1, 8, .inl (tw 0 2))), ((ad 20), .inl (g.2.1, 8, .inl (tw 1 2))), ((ad 21), .inl (g.2.1, 8, .inl (tw 2 2))), ((ad 2), cA (ad 3) al4), ((ad 3), .inl (g.2.2.1, 10, .inr (.inr (.inr (.inr (iq ad)))))), ((ad 4), cI (ig 0)), ((ad 5), cI (ig 1)), ((ad 6), cI (ig 2)), ((ad 7), cI (ig 3))] in_X4 tyX4 tyX4_ok nmX4 rfl q265 rfl (Nat.le_of_ble_eq_true rfl) (fun _ h9 => h9) rfl rfl rfl rfl (Nat.le_of_ble_eq_true rfl) rfl dX1_setTrack_20 ?_
          refine g_iload B 0 dX1_setTrack_23 rfl ?_
          exact g_xiret B hr dX1_setTrack_25 (Nat.le_of_ble_eq_true rfl) (Nat.le_of_ble_eq_true rfl) () ⟨(by first | (simp only [k_track, if_pos b_1, te_3, if_pos b_5, te_7]; done) | (simp only [k_track, if_pos b_1, te_3, if_pos b_5, te_7]; rfl) | rfl), (by first | (simp only [if_pos b_1, te_3, if_pos b_5, te_7]; done) | (simp only [if_pos b_1, te_3, if_pos b_5, te_7]; rfl) | rfl)⟩ [0, 1, 2, 3, 4, 5, 6, 7, 8, 9, 10, 11, 12, 13, 14, 15, 16, 17, 18, 19, 20] rfl (by first | (simp only [if_pos b_1, te_3, if_pos b_5, te_7]; rfl) | rfl | (rw [e_3, e_7]; rfl))
        · skip
          replace e_7 : i = 2 := e_7
          have te_7 : i.toNatClampNeg = 2 := by rw [e_7]; decide
          refine g_lvq (lv' := [(3, .ref (ad 10)), (0, .ref (ad 0)), (1, .int 0), (2, .int 2)]) (by rw [e_7]) ?_
          refine g_aload_n B 0 1 dX1_setTrack_6 rfl rfl ?_
          refine g_iload_n B 2 3 dX1_setTrack_7 rfl rfl ?_
          refine g_cuV_q (C := RX1) (T := TX1) (N := 17) (As := [.int 2]) B (m_X1_instrument l hst g ad e0 mi lo su 2 2 (by decide) (by decide) (ig 2)) 0 0 rfl rfl [0, 15, 16, 19] [] (lw_V q764 q766 qs14 q26 q767) nvX1_instrument rfl rfl rfl rfl (Nat.le_of_ble_eq_true rfl) dX1_setTrack_8 ⟨Nat.le_of_ble_eq_true rfl, Nat.le_of_ble_eq_true rfl⟩ ⟨Nat.le_of_ble_eq_true rfl, Nat.le_of_ble_eq_true rfl⟩ (fun r_10 ur_10 hr_10 => ?_)
          obtain rfl : some (ad 6) = r_10 := (hr_10).symm
          refine g_eqs (st' := [.ref (ad 6)]) rfl ?_
          refine g_pop B dX1_setTrack_11 rfl ?_
          refine g_aload_n B 3 0 dX1_setTrack_12 rfl rfl ?_
          refine g_getN (C := RX4) (T := TX4) (N := 4) B 3 3 0 (.int ((tr 0) 0)) in_X4 rfl q265 rfl (Nat.le_of_ble_eq_true rfl) (fun _ h9 => h9) rfl dX1_setTrack_13 ?_
          refine g_istore B [(4, .int ((tr 0) 0)), (3, .ref (ad 10)), (0, .ref (ad 0)), (1, .int 0), (2, .int 2)] dX1_setTrack_16 (Nat.le_of_ble_eq_true rfl) rfl ?_
          refine g_aload_n B 3 1 dX1_setTrack_18 rfl rfl ?_
          refine g_iload_n B 2 4 dX1_setTrack_19 rfl rfl ?_
          refine g_putN (C := RX4) (T := TX4) (N := 4) (ty := .int) (v := .int 2) B 3 3 0 [((ad 0), cM ad e0 mi lo su), ((ad 8), cA (ad 9) al3), ((ad 9), .inl (g.2.2.1, 10, .inr (.inr (.inr (.inr (tq ad)))))), ((ad 10), cT (ad 13) (ad 16) (ad 19) (upd (tr 0) 0 2)), ((ad 11), cT (ad 14) (ad 17) (ad 20) (tr 1)), ((ad 12), cT (ad 15) (ad 18) (ad 21) (tr 2)), ((ad 13), .inl (g.2.1, 8, .inl (tw 0 0))), ((ad 14), .inl (g.2.1, 8, .inl (tw 1 0))), ((ad 15), .inl (g.2.1, 8, .inl (tw 2 0))), ((ad 16), .inl (g.2.1, 8, .inl (tw 0 1))), ((ad 17), .inl (g.2.1, 8, .inl (tw 1 1))), ((ad 18), .inl (g.2.1, 8, .inl (tw 2 1))), ((ad 19), .inl (g.2.1, 8, .inl (tw 0 2))), ((ad 20), .inl (g.2.1, 8, .inl (tw 1 2))), ((ad 21), .inl (g.2.1, 8, .inl (tw 2 2))), ((ad 2), cA (ad 3) al4), ((ad 3), .inl (g.2.2.1, 10, .inr (.inr (.inr (.inr (iq ad)))))), ((ad 4), cI (ig 0)), ((ad 5), cI (ig 1)), ((ad 6), cI (ig 2)), ((ad 7), cI (ig 3))] in_X4 tyX4 tyX4_ok nmX4 rfl q265 rfl (Nat.le_of_ble_eq_true rfl) (fun _ h9 => h9) rfl rfl rfl rfl (Nat.le_of_ble_eq_true rfl) rfl dX1_setTrack_20 ?_
          refine g_iload B 0 dX1_setTrack_23 rfl ?_
          exact g_xiret B hr dX1_setTrack_25 (Nat.le_of_ble_eq_true rfl) (Nat.le_of_ble_eq_true rfl) () ⟨(by first | (simp only [k_track, if_pos b_1, te_3, if_pos b_5, te_7]; done) | (simp only [k_track, if_pos b_1, te_3, if_pos b_5, te_7]; rfl) | rfl), (by first | (simp only [if_pos b_1, te_3, if_pos b_5, te_7]; done) | (simp only [if_pos b_1, te_3, if_pos b_5, te_7]; rfl) | rfl)⟩ [0, 1, 2, 3, 4, 5, 6, 7, 8, 9, 10, 11, 12, 13, 14, 15, 16, 17, 18, 19, 20] rfl (by first | (simp only [if_pos b_1, te_3, if_pos b_5, te_7]; rfl) | rfl | (rw [e_3, e_7]; rfl))
        · skip
          replace e_7 : i = 3 := e_7
          have te_7 : i.toNatClampNeg = 3 := by rw [e_7]; decide
          refine g_lvq (lv' := [(3, .ref (ad 10)), (0, .ref (ad 0)), (1, .int 0), (2, .int 3)]) (by rw [e_7]) ?_
          refine g_aload_n B 0 1 dX1_setTrack_6 rfl rfl ?_
          refine g_iload_n B 2 3 dX1_setTrack_7 rfl rfl ?_
          refine g_cuV_q (C := RX1) (T := TX1) (N := 17) (As := [.int 3]) B (m_X1_instrument l hst g ad e0 mi lo su 3 3 (by decide) (by decide) (ig 3)) 0 0 rfl rfl [0, 15, 16, 20] [] (lw_V q764 q766 qs14 q26 q767) nvX1_instrument rfl rfl rfl rfl (Nat.le_of_ble_eq_true rfl) dX1_setTrack_8 ⟨Nat.le_of_ble_eq_true rfl, Nat.le_of_ble_eq_true rfl⟩ ⟨Nat.le_of_ble_eq_true rfl, Nat.le_of_ble_eq_true rfl⟩ (fun r_11 ur_11 hr_11 => ?_)
          obtain rfl : some (ad 7) = r_11 := (hr_11).symm
          refine g_eqs (st' := [.ref (ad 7)]) rfl ?_
          refine g_pop B dX1_setTrack_11 rfl ?_
          refine g_aload_n B 3 0 dX1_setTrack_12 rfl rfl ?_
          refine g_getN (C := RX4) (T := TX4) (N := 4) B 3 3 0 (.int ((tr 0) 0)) in_X4 rfl q265 rfl (Nat.le_of_ble_eq_true rfl) (fun _ h9 => h9) rfl dX1_setTrack_13 ?_
          refine g_istore B [(4, .int ((tr 0) 0)), (3, .ref (ad 10)), (0, .ref (ad 0)), (1, .int 0), (2, .int 3)] dX1_setTrack_16 (Nat.le_of_ble_eq_true rfl) rfl ?_
          refine g_aload_n B 3 1 dX1_setTrack_18 rfl rfl ?_
          refine g_iload_n B 2 4 dX1_setTrack_19 rfl rfl ?_
          refine g_putN (C := RX4) (T := TX4) (N := 4) (ty := .int) (v := .int 3) B 3 3 0 [((ad 0), cM ad e0 mi lo su), ((ad 8), cA (ad 9) al3), ((ad 9), .inl (g.2.2.1, 10, .inr (.inr (.inr (.inr (tq ad)))))), ((ad 10), cT (ad 13) (ad 16) (ad 19) (upd (tr 0) 0 3)), ((ad 11), cT (ad 14) (ad 17) (ad 20) (tr 1)), ((ad 12), cT (ad 15) (ad 18) (ad 21) (tr 2)), ((ad 13), .inl (g.2.1, 8, .inl (tw 0 0))), ((ad 14), .inl (g.2.1, 8, .inl (tw 1 0))), ((ad 15), .inl (g.2.1, 8, .inl (tw 2 0))), ((ad 16), .inl (g.2.1, 8, .inl (tw 0 1))), ((ad 17), .inl (g.2.1, 8, .inl (tw 1 1))), ((ad 18), .inl (g.2.1, 8, .inl (tw 2 1))), ((ad 19), .inl (g.2.1, 8, .inl (tw 0 2))), ((ad 20), .inl (g.2.1, 8, .inl (tw 1 2))), ((ad 21), .inl (g.2.1, 8, .inl (tw 2 2))), ((ad 2), cA (ad 3) al4), ((ad 3), .inl (g.2.2.1, 10, .inr (.inr (.inr (.inr (iq ad)))))), ((ad 4), cI (ig 0)), ((ad 5), cI (ig 1)), ((ad 6), cI (ig 2)), ((ad 7), cI (ig 3))] in_X4 tyX4 tyX4_ok nmX4 rfl q265 rfl (Nat.le_of_ble_eq_true rfl) (fun _ h9 => h9) rfl rfl rfl rfl (Nat.le_of_ble_eq_true rfl) rfl dX1_setTrack_20 ?_
          refine g_iload B 0 dX1_setTrack_23 rfl ?_
          exact g_xiret B hr dX1_setTrack_25 (Nat.le_of_ble_eq_true rfl) (Nat.le_of_ble_eq_true rfl) () ⟨(by first | (simp only [k_track, if_pos b_1, te_3, if_pos b_5, te_7]; done) | (simp only [k_track, if_pos b_1, te_3, if_pos b_5, te_7]; rfl) | rfl), (by first | (simp only [if_pos b_1, te_3, if_pos b_5, te_7]; done) | (simp only [if_pos b_1, te_3, if_pos b_5, te_7]; rfl) | rfl)⟩ [0, 1, 2, 3, 4, 5, 6, 7, 8, 9, 10, 11, 12, 13, 14, 15, 16, 17, 18, 19, 20] rfl (by first | (simp only [if_pos b_1, te_3, if_pos b_5, te_7]; rfl) | rfl | (rw [e_3, e_7]; rfl))
      · skip
        refine g_aload_n B 0 1 dX1_setTrack_6 rfl rfl ?_
        refine g_iload_n B 2 3 dX1_setTrack_7 rfl rfl ?_
        refine g_xuV_q (C := RX1) (T := TX1) (N := 17) (As := [.int i]) B (m_X1_instrument_b l hst g ad e0 mi lo su i b_5) 0 0 rfl rfl [0] [] (lw_V q764 q766 qs14 q26 q767) nvX1_instrument rfl rfl rfl rfl (Nat.le_of_ble_eq_true rfl) dX1_setTrack_8 ⟨Nat.le_of_ble_eq_true rfl, Nat.le_of_ble_eq_true rfl⟩ ⟨Nat.le_of_ble_eq_true rfl, Nat.le_of_ble_eq_true rfl⟩ (fun E hE => ?_) (fun r_12 ur_12 hr_12 => ?_)
        · skip
          have hK9 : ¬ (ix_k i 4) = 0 := by rw [hE.2]; decide
          exact g_xout B hT hA9 (Nat.le_of_ble_eq_true rfl) (Nat.le_of_ble_eq_true rfl) ⟨hE.1, (by first | exact hE.2 | (simp only [k_track, if_pos b_1, te_3, if_neg b_5, if_neg hK9]; done) | (simp only [k_track, if_pos b_1, te_3, if_neg b_5, if_neg hK9]; rfl) | rfl)⟩ [0, 1, 2, 3, 4, 5, 6, 7, 8, 9, 10, 11, 12, 13, 14, 15, 16, 17, 18, 19, 20] rfl rfl
        have kr_12 : (ix_k i 4) = 0 := hr_12.1
        replace hr_12 := hr_12.2
        exact absurd kr_12 b_5
    · skip
      replace e_3 : t = 1 := e_3
      have te_3 : t.toNatClampNeg = 1 := by rw [e_3]; decide
      refine g_lvq (lv' := [(0, .ref (ad 0)), (1, .int 1), (2, .int i)]) (by rw [e_3]) ?_
      refine g_aload_n B 0 0 dX1_setTrack_0 rfl rfl ?_
      refine g_iload_n B 1 1 dX1_setTrack_1 rfl rfl ?_
      refine g_cuV_q (C := RX1) (T := TX1) (N := 17) (As := [.int 1]) B (m_X1_track l hst g ad e0 mi lo su 1 1 (by decide) (by decide) (tr 1)) 0 0 rfl rfl [0, 1, 2, 4] [] (lw_V q691 q693 qs13 q26 q694) nvX1_track rfl rfl rfl rfl (Nat.le_of_ble_eq_true rfl) dX1_setTrack_2 ⟨Nat.le_of_ble_eq_true rfl, Nat.le_of_ble_eq_true rfl⟩ ⟨Nat.le_of_ble_eq_true rfl, Nat.le_of_ble_eq_true rfl⟩ (fun r_13 ur_13 hr_13 => ?_)
      obtain rfl : some (ad 11) = r_13 := (hr_13).symm
      refine g_eqs (st' := [.ref (ad 11)]) rfl ?_
      refine g_astore_n B 3 [(3, .ref (ad 11)), (0, .ref (ad 0)), (1, .int 1), (2, .int i)] dX1_setTrack_5 rfl (Nat.le_of_ble_eq_true rfl) rfl ?_
      by_cases b_14 : ix_k i 4 = 0
      · skip
        obtain ⟨q_15, hq_15, e_16⟩ := ix_nat (N := 4) b_14 (by decide) (by decide)
        rcases (show q_15 = 0 ∨ q_15 = 1 ∨ q_15 = 2 ∨ q_15 = 3 by omega) with rfl | rfl | rfl | rfl
        · skip
          replace e_16 : i = 0 := e_16
          have te_16 : i.toNatClampNeg = 0 := by rw [e_16]; decide
          refine g_lvq (lv' := [(3, .ref (ad 11)), (0, .ref (ad 0)), (1, .int 1), (2, .int 0)]) (by rw [e_16]) ?_
          refine g_aload_n B 0 1 dX1_setTrack_6 rfl rfl ?_
          refine g_iload_n B 2 3 dX1_setTrack_7 rfl rfl ?_
          refine g_cuV_q (C := RX1) (T := TX1) (N := 17) (As := [.int 0]) B (m_X1_instrument l hst g ad e0 mi lo su 0 0 (by decide) (by decide) (ig 0)) 0 0 rfl rfl [0, 15, 16, 17] [] (lw_V q764 q766 qs14 q26 q767) nvX1_instrument rfl rfl rfl rfl (Nat.le_of_ble_eq_true rfl) dX1_setTrack_8 ⟨Nat.le_of_ble_eq_true rfl, Nat.le_of_ble_eq_true rfl⟩ ⟨Nat.le_of_ble_eq_true rfl, Nat.le_of_ble_eq_true rfl⟩ (fun r_17 ur_17 hr_17 => ?_)
          obtain rfl : some (ad 4) = r_17 := (hr_17).symm
          refine g_eqs (st' := [.ref (ad 4)]) rfl ?_
          refine g_pop B dX1_setTrack_11 rfl ?_
          refine g_aload_n B 3 0 dX1_setTrack_12 rfl rfl ?_
          refine g_getN (C := RX4) (T := TX4) (N := 4) B 3 4 0 (.int ((tr 1) 0)) in_X4 rfl q265 rfl (Nat.le_of_ble_eq_true rfl) (fun _ h9 => h9) rfl dX1_setTrack_13 ?_
          refine g_istore B [(4, .int ((tr 1) 0)), (3, .ref (ad 11)), (0, .ref (ad 0)), (1, .int 1), (2, .int 0)] dX1_setTrack_16 (Nat.le_of_ble_eq_true rfl) rfl ?_
          refine g_aload_n B 3 1 dX1_setTrack_18 rfl rfl ?_
          refine g_iload_n B 2 4 dX1_setTrack_19 rfl rfl ?_
          refine g_putN (C := RX4) (T := TX4) (N := 4) (ty := .int) (v := .int 0) B 3 4 0 [((ad 0), cM ad e0 mi lo su), ((ad 8), cA (ad 9) al3), ((ad 9), .inl (g.2.2.1, 10, .inr (.inr (.inr (.inr (tq ad)))))), ((ad 10), cT (ad 13) (ad 16) (ad 19) (tr 0)), ((ad 11), cT (ad 14) (ad 17) (ad 20) (upd (tr 1) 0 0)), ((ad 12), cT (ad 15) (ad 18) (ad 21) (tr 2)), ((ad 13), .inl (g.2.1, 8, .inl (tw 0 0))), ((ad 14), .inl (g.2.1, 8, .inl (tw 1 0))), ((ad 15), .inl (g.2.1, 8, .inl (tw 2 0))), ((ad 16), .inl (g.2.1, 8, .inl (tw 0 1))), ((ad 17), .inl (g.2.1, 8, .inl (tw 1 1))), ((ad 18), .inl (g.2.1, 8, .inl (tw 2 1))), ((ad 19), .inl (g.2.1, 8, .inl (tw 0 2))), ((ad 20), .inl (g.2.1, 8, .inl (tw 1 2))), ((ad 21), .inl (g.2.1, 8, .inl (tw 2 2))), ((ad 2), cA (ad 3) al4), ((ad 3), .inl (g.2.2.1, 10, .inr (.inr (.inr (.inr (iq ad)))))), ((ad 4), cI (ig 0)), ((ad 5), cI (ig 1)), ((ad 6), cI (ig 2)), ((ad 7), cI (ig 3))] in_X4 tyX4 tyX4_ok nmX4 rfl q265 rfl (Nat.le_of_ble_eq_true rfl) (fun _ h9 => h9) rfl rfl rfl rfl (Nat.le_of_ble_eq_true rfl) rfl dX1_setTrack_20 ?_
          refine g_iload B 0 dX1_setTrack_23 rfl ?_
          exact g_xiret B hr dX1_setTrack_25 (Nat.le_of_ble_eq_true rfl) (Nat.le_of_ble_eq_true rfl) () ⟨(by first | (simp only [k_track, if_pos b_1, te_3, if_pos b_14, te_16]; done) | (simp only [k_track, if_pos b_1, te_3, if_pos b_14, te_16]; rfl) | rfl), (by first | (simp only [if_pos b_1, te_3, if_pos b_14, te_16]; done) | (simp only [if_pos b_1, te_3, if_pos b_14, te_16]; rfl) | rfl)⟩ [0, 1, 2, 3, 4, 5, 6, 7, 8, 9, 10, 11, 12, 13, 14, 15, 16, 17, 18, 19, 20] rfl (by first | (simp only [if_pos b_1, te_3, if_pos b_14, te_16]; rfl) | rfl | (rw [e_3, e_16]; rfl))
        · skip
          replace e_16 : i = 1 := e_16
          have te_16 : i.toNatClampNeg = 1 := by rw [e_16]; decide
          refine g_lvq (lv' := [(3, .ref (ad 11)), (0, .ref (ad 0)), (1, .int 1), (2, .int 1)]) (by rw [e_16]) ?_
          refine g_aload_n B 0 1 dX1_setTrack_6 rfl rfl ?_
          refine g_iload_n B 2 3 dX1_setTrack_7 rfl rfl ?_
          refine g_cuV_q (C := RX1) (T := TX1) (N := 17) (As := [.int 1]) B (m_X1_instrument l hst g ad e0 mi lo su 1 1 (by decide) (by decide) (ig 1)) 0 0 rfl rfl [0, 15, 16, 18] [] (lw_V q764 q766 qs14 q26 q767) nvX1_instrument rfl rfl rfl rfl (Nat.le_of_ble_eq_true rfl) dX1_setTrack_8 ⟨Nat.le_of_ble_eq_true rfl, Nat.le_of_ble_eq_true rfl⟩ ⟨Nat.le_of_ble_eq_true rfl, Nat.le_of_ble_eq_true rfl⟩ (fun r_18 ur_18 hr_18 => ?_)
          obtain rfl : some (ad 5) = r_18 := (hr_18).symm
          refine g_eqs (st' := [.ref (ad 5)]) rfl ?_
          refine g_pop B dX1_setTrack_11 rfl ?_
          refine g_aload_n B 3 0 dX1_setTrack_12 rfl rfl ?_
          refine g_getN (C := RX4) (T := TX4) (N := 4) B 3 4 0 (.int ((tr 1) 0)) in_X4 rfl q265 rfl (Nat.le_of_ble_eq_true rfl) (fun _ h9 => h9) rfl dX1_setTrack_13 ?_
          refine g_istore B [(4, .int ((tr 1) 0)), (3, .ref (ad 11)), (0, .ref (ad 0)), (1, .int 1), (2, .int 1)] dX1_setTrack_16 (Nat.le_of_ble_eq_true rfl) rfl ?_
          refine g_aload_n B 3 1 dX1_setTrack_18 rfl rfl ?_
          refine g_iload_n B 2 4 dX1_setTrack_19 rfl rfl ?_
          refine g_putN (C := RX4) (T := TX4) (N := 4) (ty := .int) (v := .int 1) B 3 4 0 [((ad 0), cM ad e0 mi lo su), ((ad 8), cA (ad 9) al3), ((ad 9), .inl (g.2.2.1, 10, .inr (.inr (.inr (.inr (tq ad)))))), ((ad 10), cT (ad 13) (ad 16) (ad 19) (tr 0)), ((ad 11), cT (ad 14) (ad 17) (ad 20) (upd (tr 1) 0 1)), ((ad 12), cT (ad 15) (ad 18) (ad 21) (tr 2)), ((ad 13), .inl (g.2.1, 8, .inl (tw 0 0))), ((ad 14), .inl (g.2.1, 8, .inl (tw 1 0))), ((ad 15), .inl (g.2.1, 8, .inl (tw 2 0))), ((ad 16), .inl (g.2.1, 8, .inl (tw 0 1))), ((ad 17), .inl (g.2.1, 8, .inl (tw 1 1))), ((ad 18), .inl (g.2.1, 8, .inl (tw 2 1))), ((ad 19), .inl (g.2.1, 8, .inl (tw 0 2))), ((ad 20), .inl (g.2.1, 8, .inl (tw 1 2))), ((ad 21), .inl (g.2.1, 8, .inl (tw 2 2))), ((ad 2), cA (ad 3) al4), ((ad 3), .inl (g.2.2.1, 10, .inr (.inr (.inr (.inr (iq ad)))))), ((ad 4), cI (ig 0)), ((ad 5), cI (ig 1)), ((ad 6), cI (ig 2)), ((ad 7), cI (ig 3))] in_X4 tyX4 tyX4_ok nmX4 rfl q265 rfl (Nat.le_of_ble_eq_true rfl) (fun _ h9 => h9) rfl rfl rfl rfl (Nat.le_of_ble_eq_true rfl) rfl dX1_setTrack_20 ?_
          refine g_iload B 0 dX1_setTrack_23 rfl ?_
          exact g_xiret B hr dX1_setTrack_25 (Nat.le_of_ble_eq_true rfl) (Nat.le_of_ble_eq_true rfl) () ⟨(by first | (simp only [k_track, if_pos b_1, te_3, if_pos b_14, te_16]; done) | (simp only [k_track, if_pos b_1, te_3, if_pos b_14, te_16]; rfl) | rfl), (by first | (simp only [if_pos b_1, te_3, if_pos b_14, te_16]; done) | (simp only [if_pos b_1, te_3, if_pos b_14, te_16]; rfl) | rfl)⟩ [0, 1, 2, 3, 4, 5, 6, 7, 8, 9, 10, 11, 12, 13, 14, 15, 16, 17, 18, 19, 20] rfl (by first | (simp only [if_pos b_1, te_3, if_pos b_14, te_16]; rfl) | rfl | (rw [e_3, e_16]; rfl))
        · skip
          replace e_16 : i = 2 := e_16
          have te_16 : i.toNatClampNeg = 2 := by rw [e_16]; decide
          refine g_lvq (lv' := [(3, .ref (ad 11)), (0, .ref (ad 0)), (1, .int 1), (2, .int 2)]) (by rw [e_16]) ?_
          refine g_aload_n B 0 1 dX1_setTrack_6 rfl rfl ?_
          refine g_iload_n B 2 3 dX1_setTrack_7 rfl rfl ?_
          refine g_cuV_q (C := RX1) (T := TX1) (N := 17) (As := [.int 2]) B (m_X1_instrument l hst g ad e0 mi lo su 2 2 (by decide) (by decide) (ig 2)) 0 0 rfl rfl [0, 15, 16, 19] [] (lw_V q764 q766 qs14 q26 q767) nvX1_instrument rfl rfl rfl rfl (Nat.le_of_ble_eq_true rfl) dX1_setTrack_8 ⟨Nat.le_of_ble_eq_true rfl, Nat.le_of_ble_eq_true rfl⟩ ⟨Nat.le_of_ble_eq_true rfl, Nat.le_of_ble_eq_true rfl⟩ (fun r_19 ur_19 hr_19 => ?_)
          obtain rfl : some (ad 6) = r_19 := (hr_19).symm
          refine g_eqs (st' := [.ref (ad 6)]) rfl ?_
          refine g_pop B dX1_setTrack_11 rfl ?_
          refine g_aload_n B 3 0 dX1_setTrack_12 rfl rfl ?_
          refine g_getN (C := RX4) (T := TX4) (N := 4) B 3 4 0 (.int ((tr 1) 0)) in_X4 rfl q265 rfl (Nat.le_of_ble_eq_true rfl) (fun _ h9 => h9) rfl dX1_setTrack_13 ?_
          refine g_istore B [(4, .int ((tr 1) 0)), (3, .ref (ad 11)), (0, .ref (ad 0)), (1, .int 1), (2, .int 2)] dX1_setTrack_16 (Nat.le_of_ble_eq_true rfl) rfl ?_
          refine g_aload_n B 3 1 dX1_setTrack_18 rfl rfl ?_
          refine g_iload_n B 2 4 dX1_setTrack_19 rfl rfl ?_
          refine g_putN (C := RX4) (T := TX4) (N := 4) (ty := .int) (v := .int 2) B 3 4 0 [((ad 0), cM ad e0 mi lo su), ((ad 8), cA (ad 9) al3), ((ad 9), .inl (g.2.2.1, 10, .inr (.inr (.inr (.inr (tq ad)))))), ((ad 10), cT (ad 13) (ad 16) (ad 19) (tr 0)), ((ad 11), cT (ad 14) (ad 17) (ad 20) (upd (tr 1) 0 2)), ((ad 12), cT (ad 15) (ad 18) (ad 21) (tr 2)), ((ad 13), .inl (g.2.1, 8, .inl (tw 0 0))), ((ad 14), .inl (g.2.1, 8, .inl (tw 1 0))), ((ad 15), .inl (g.2.1, 8, .inl (tw 2 0))), ((ad 16), .inl (g.2.1, 8, .inl (tw 0 1))), ((ad 17), .inl (g.2.1, 8, .inl (tw 1 1))), ((ad 18), .inl (g.2.1, 8, .inl (tw 2 1))), ((ad 19), .inl (g.2.1, 8, .inl (tw 0 2))), ((ad 20), .inl (g.2.1, 8, .inl (tw 1 2))), ((ad 21), .inl (g.2.1, 8, .inl (tw 2 2))), ((ad 2), cA (ad 3) al4), ((ad 3), .inl (g.2.2.1, 10, .inr (.inr (.inr (.inr (iq ad)))))), ((ad 4), cI (ig 0)), ((ad 5), cI (ig 1)), ((ad 6), cI (ig 2)), ((ad 7), cI (ig 3))] in_X4 tyX4 tyX4_ok nmX4 rfl q265 rfl (Nat.le_of_ble_eq_true rfl) (fun _ h9 => h9) rfl rfl rfl rfl (Nat.le_of_ble_eq_true rfl) rfl dX1_setTrack_20 ?_
          refine g_iload B 0 dX1_setTrack_23 rfl ?_
          exact g_xiret B hr dX1_setTrack_25 (Nat.le_of_ble_eq_true rfl) (Nat.le_of_ble_eq_true rfl) () ⟨(by first | (simp only [k_track, if_pos b_1, te_3, if_pos b_14, te_16]; done) | (simp only [k_track, if_pos b_1, te_3, if_pos b_14, te_16]; rfl) | rfl), (by first | (simp only [if_pos b_1, te_3, if_pos b_14, te_16]; done) | (simp only [if_pos b_1, te_3, if_pos b_14, te_16]; rfl) | rfl)⟩ [0, 1, 2, 3, 4, 5, 6, 7, 8, 9, 10, 11, 12, 13, 14, 15, 16, 17, 18, 19, 20] rfl (by first | (simp only [if_pos b_1, te_3, if_pos b_14, te_16]; rfl) | rfl | (rw [e_3, e_16]; rfl))
        · skip
          replace e_16 : i = 3 := e_16
          have te_16 : i.toNatClampNeg = 3 := by rw [e_16]; decide
          refine g_lvq (lv' := [(3, .ref (ad 11)), (0, .ref (ad 0)), (1, .int 1), (2, .int 3)]) (by rw [e_16]) ?_
          refine g_aload_n B 0 1 dX1_setTrack_6 rfl rfl ?_
          refine g_iload_n B 2 3 dX1_setTrack_7 rfl rfl ?_
          refine g_cuV_q (C := RX1) (T := TX1) (N := 17) (As := [.int 3]) B (m_X1_instrument l hst g ad e0 mi lo su 3 3 (by decide) (by decide) (ig 3)) 0 0 rfl rfl [0, 15, 16, 20] [] (lw_V q764 q766 qs14 q26 q767) nvX1_instrument rfl rfl rfl rfl (Nat.le_of_ble_eq_true rfl) dX1_setTrack_8 ⟨Nat.le_of_ble_eq_true rfl, Nat.le_of_ble_eq_true rfl⟩ ⟨Nat.le_of_ble_eq_true rfl, Nat.le_of_ble_eq_true rfl⟩ (fun r_20 ur_20 hr_20 => ?_)
          obtain rfl : some (ad 7) = r_20 := (hr_20).symm
          refine g_eqs (st' := [.ref (ad 7)]) rfl ?_
          refine g_pop B dX1_setTrack_11 rfl ?_
          refine g_aload_n B 3 0 dX1_setTrack_12 rfl rfl ?_
          refine g_getN (C := RX4) (T := TX4) (N := 4) B 3 4 0 (.int ((tr 1) 0)) in_X4 rfl q265 rfl (Nat.le_of_ble_eq_true rfl) (fun _ h9 => h9) rfl dX1_setTrack_13 ?_
          refine g_istore B [(4, .int ((tr 1) 0)), (3, .ref (ad 11)), (0, .ref (ad 0)), (1, .int 1), (2, .int 3)] dX1_setTrack_16 (Nat.le_of_ble_eq_true rfl) rfl ?_
          refine g_aload_n B 3 1 dX1_setTrack_18 rfl rfl ?_
          refine g_iload_n B 2 4 dX1_setTrack_19 rfl rfl ?_
          refine g_putN (C := RX4) (T := TX4) (N := 4) (ty := .int) (v := .int 3) B 3 4 0 [((ad 0), cM ad e0 mi lo su), ((ad 8), cA (ad 9) al3), ((ad 9), .inl (g.2.2.1, 10, .inr (.inr (.inr (.inr (tq ad)))))), ((ad 10), cT (ad 13) (ad 16) (ad 19) (tr 0)), ((ad 11), cT (ad 14) (ad 17) (ad 20) (upd (tr 1) 0 3)), ((ad 12), cT (ad 15) (ad 18) (ad 21) (tr 2)), ((ad 13), .inl (g.2.1, 8, .inl (tw 0 0))), ((ad 14), .inl (g.2.1, 8, .inl (tw 1 0))), ((ad 15), .inl (g.2.1, 8, .inl (tw 2 0))), ((ad 16), .inl (g.2.1, 8, .inl (tw 0 1))), ((ad 17), .inl (g.2.1, 8, .inl (tw 1 1))), ((ad 18), .inl (g.2.1, 8, .inl (tw 2 1))), ((ad 19), .inl (g.2.1, 8, .inl (tw 0 2))), ((ad 20), .inl (g.2.1, 8, .inl (tw 1 2))), ((ad 21), .inl (g.2.1, 8, .inl (tw 2 2))), ((ad 2), cA (ad 3) al4), ((ad 3), .inl (g.2.2.1, 10, .inr (.inr (.inr (.inr (iq ad)))))), ((ad 4), cI (ig 0)), ((ad 5), cI (ig 1)), ((ad 6), cI (ig 2)), ((ad 7), cI (ig 3))] in_X4 tyX4 tyX4_ok nmX4 rfl q265 rfl (Nat.le_of_ble_eq_true rfl) (fun _ h9 => h9) rfl rfl rfl rfl (Nat.le_of_ble_eq_true rfl) rfl dX1_setTrack_20 ?_
          refine g_iload B 0 dX1_setTrack_23 rfl ?_
          exact g_xiret B hr dX1_setTrack_25 (Nat.le_of_ble_eq_true rfl) (Nat.le_of_ble_eq_true rfl) () ⟨(by first | (simp only [k_track, if_pos b_1, te_3, if_pos b_14, te_16]; done) | (simp only [k_track, if_pos b_1, te_3, if_pos b_14, te_16]; rfl) | rfl), (by first | (simp only [if_pos b_1, te_3, if_pos b_14, te_16]; done) | (simp only [if_pos b_1, te_3, if_pos b_14, te_16]; rfl) | rfl)⟩ [0, 1, 2, 3, 4, 5, 6, 7, 8, 9, 10, 11, 12, 13, 14, 15, 16, 17, 18, 19, 20] rfl (by first | (simp only [if_pos b_1, te_3, if_pos b_14, te_16]; rfl) | rfl | (rw [e_3, e_16]; rfl))
      · skip
        refine g_aload_n B 0 1 dX1_setTrack_6 rfl rfl ?_
        refine g_iload_n B 2 3 dX1_setTrack_7 rfl rfl ?_
        refine g_xuV_q (C := RX1) (T := TX1) (N := 17) (As := [.int i]) B (m_X1_instrument_b l hst g ad e0 mi lo su i b_14) 0 0 rfl rfl [0] [] (lw_V q764 q766 qs14 q26 q767) nvX1_instrument rfl rfl rfl rfl (Nat.le_of_ble_eq_true rfl) dX1_setTrack_8 ⟨Nat.le_of_ble_eq_true rfl, Nat.le_of_ble_eq_true rfl⟩ ⟨Nat.le_of_ble_eq_true rfl, Nat.le_of_ble_eq_true rfl⟩ (fun E hE => ?_) (fun r_21 ur_21 hr_21 => ?_)
        · skip
          have hK9 : ¬ (ix_k i 4) = 0 := by rw [hE.2]; decide
          exact g_xout B hT hA9 (Nat.le_of_ble_eq_true rfl) (Nat.le_of_ble_eq_true rfl) ⟨hE.1, (by first | exact hE.2 | (simp only [k_track, if_pos b_1, te_3, if_neg b_14, if_neg hK9]; done) | (simp only [k_track, if_pos b_1, te_3, if_neg b_14, if_neg hK9]; rfl) | rfl)⟩ [0, 1, 2, 3, 4, 5, 6, 7, 8, 9, 10, 11, 12, 13, 14, 15, 16, 17, 18, 19, 20] rfl rfl
        have kr_21 : (ix_k i 4) = 0 := hr_21.1
        replace hr_21 := hr_21.2
        exact absurd kr_21 b_14
    · skip
      replace e_3 : t = 2 := e_3
      have te_3 : t.toNatClampNeg = 2 := by rw [e_3]; decide
      refine g_lvq (lv' := [(0, .ref (ad 0)), (1, .int 2), (2, .int i)]) (by rw [e_3]) ?_
      refine g_aload_n B 0 0 dX1_setTrack_0 rfl rfl ?_
      refine g_iload_n B 1 1 dX1_setTrack_1 rfl rfl ?_
      refine g_cuV_q (C := RX1) (T := TX1) (N := 17) (As := [.int 2]) B (m_X1_track l hst g ad e0 mi lo su 2 2 (by decide) (by decide) (tr 2)) 0 0 rfl rfl [0, 1, 2, 5] [] (lw_V q691 q693 qs13 q26 q694) nvX1_track rfl rfl rfl rfl (Nat.le_of_ble_eq_true rfl) dX1_setTrack_2 ⟨Nat.le_of_ble_eq_true rfl, Nat.le_of_ble_eq_true rfl⟩ ⟨Nat.le_of_ble_eq_true rfl, Nat.le_of_ble_eq_true rfl⟩ (fun r_22 ur_22 hr_22 => ?_)
      obtain rfl : some (ad 12) = r_22 := (hr_22).symm
      refine g_eqs (st' := [.ref (ad 12)]) rfl ?_
      refine g_astore_n B 3 [(3, .ref (ad 12)), (0, .ref (ad 0)), (1, .int 2), (2, .int i)] dX1_setTrack_5 rfl (Nat.le_of_ble_eq_true rfl) rfl ?_
      by_cases b_23 : ix_k i 4 = 0
      · skip
        obtain ⟨q_24, hq_24, e_25⟩ := ix_nat (N := 4) b_23 (by decide) (by decide)
        rcases (show q_24 = 0 ∨ q_24 = 1 ∨ q_24 = 2 ∨ q_24 = 3 by omega) with rfl | rfl | rfl | rfl
        · skip
          replace e_25 : i = 0 := e_25
          have te_25 : i.toNatClampNeg = 0 := by rw [e_25]; decide
          refine g_lvq (lv' := [(3, .ref (ad 12)), (0, .ref (ad 0)), (1, .int 2), (2, .int 0)]) (by rw [e_25]) ?_
          refine g_aload_n B 0 1 dX1_setTrack_6 rfl rfl ?_
          refine g_iload_n B 2 3 dX1_setTrack_7 rfl rfl ?_
          refine g_cuV_q (C := RX1) (T := TX1) (N := 17) (As := [.int 0]) B (m_X1_instrument l hst g ad e0 mi lo su 0 0 (by decide) (by decide) (ig 0)) 0 0 rfl rfl [0, 15, 16, 17] [] (lw_V q764 q766 qs14 q26 q767) nvX1_instrument rfl rfl rfl rfl (Nat.le_of_ble_eq_true rfl) dX1_setTrack_8 ⟨Nat.le_of_ble_eq_true rfl, Nat.le_of_ble_eq_true rfl⟩ ⟨Nat.le_of_ble_eq_true rfl, Nat.le_of_ble_eq_true rfl⟩ (fun r_26 ur_26 hr_26 => ?_)
          obtain rfl : some (ad 4) = r_26 := (hr_26).symm
          refine g_eqs (st' := [.ref (ad 4)]) rfl ?_
          refine g_pop B dX1_setTrack_11 rfl ?_
          refine g_aload_n B 3 0 dX1_setTrack_12 rfl rfl ?_
          refine g_getN (C := RX4) (T := TX4) (N := 4) B 3 5 0 (.int ((tr 2) 0)) in_X4 rfl q265 rfl (Nat.le_of_ble_eq_true rfl) (fun _ h9 => h9) rfl dX1_setTrack_13 ?_
          refine g_istore B [(4, .int ((tr 2) 0)), (3, .ref (ad 12)), (0, .ref (ad 0)), (1, .int 2), (2, .int 0)] dX1_setTrack_16 (Nat.le_of_ble_eq_true rfl) rfl ?_
          refine g_aload_n B 3 1 dX1_setTrack_18 rfl rfl ?_
          refine g_iload_n B 2 4 dX1_setTrack_19 rfl rfl ?_
          refine g_putN (C := RX4) (T := TX4) (N := 4) (ty := .int) (v := .int 0) B 3 5 0 [((ad 0), cM ad e0 mi lo su), ((ad 8), cA (ad 9) al3), ((ad 9), .inl (g.2.2.1, 10, .inr (.inr (.inr (.inr (tq ad)))))), ((ad 10), cT (ad 13) (ad 16) (ad 19) (tr 0)), ((ad 11), cT (ad 14) (ad 17) (ad 20) (tr 1)), ((ad 12), cT (ad 15) (ad 18) (ad 21) (upd (tr 2) 0 0)), ((ad 13), .inl (g.2.1, 8, .inl (tw 0 0))), ((ad 14), .inl (g.2.1, 8, .inl (tw 1 0))), ((ad 15), .inl (g.2.1, 8, .inl (tw 2 0))), ((ad 16), .inl (g.2.1, 8, .inl (tw 0 1))), ((ad 17), .inl (g.2.1, 8, .inl (tw 1 1))), ((ad 18), .inl (g.2.1, 8, .inl (tw 2 1))), ((ad 19), .inl (g.2.1, 8, .inl (tw 0 2))), ((ad 20), .inl (g.2.1, 8, .inl (tw 1 2))), ((ad 21), .inl (g.2.1, 8, .inl (tw 2 2))), ((ad 2), cA (ad 3) al4), ((ad 3), .inl (g.2.2.1, 10, .inr (.inr (.inr (.inr (iq ad)))))), ((ad 4), cI (ig 0)), ((ad 5), cI (ig 1)), ((ad 6), cI (ig 2)), ((ad 7), cI (ig 3))] in_X4 tyX4 tyX4_ok nmX4 rfl q265 rfl (Nat.le_of_ble_eq_true rfl) (fun _ h9 => h9) rfl rfl rfl rfl (Nat.le_of_ble_eq_true rfl) rfl dX1_setTrack_20 ?_
          refine g_iload B 0 dX1_setTrack_23 rfl ?_
          exact g_xiret B hr dX1_setTrack_25 (Nat.le_of_ble_eq_true rfl) (Nat.le_of_ble_eq_true rfl) () ⟨(by first | (simp only [k_track, if_pos b_1, te_3, if_pos b_23, te_25]; done) | (simp only [k_track, if_pos b_1, te_3, if_pos b_23, te_25]; rfl) | rfl), (by first | (simp only [if_pos b_1, te_3, if_pos b_23, te_25]; done) | (simp only [if_pos b_1, te_3, if_pos b_23, te_25]; rfl) | rfl)⟩ [0, 1, 2, 3, 4, 5, 6, 7, 8, 9, 10, 11, 12, 13, 14, 15, 16, 17, 18, 19, 20] rfl (by first | (simp only [if_pos b_1, te_3, if_pos b_23, te_25]; rfl) | rfl | (rw [e_3, e_25]; rfl))
        · skip
          replace e_25 : i = 1 := e_25
          have te_25 : i.toNatClampNeg = 1 := by rw [e_25]; decide
          refine g_lvq (lv' := [(3, .ref (ad 12)), (0, .ref (ad 0)), (1, .int 2), (2, .int 1)]) (by rw [e_25]) ?_
          refine g_aload_n B 0 1 dX1_setTrack_6 rfl rfl ?_
          refine g_iload_n B 2 3 dX1_setTrack_7 rfl rfl ?_
          refine g_cuV_q (C := RX1) (T := TX1) (N := 17) (As := [.int 1]) B (m_X1_instrument l hst g ad e0 mi lo su 1 1 (by decide) (by decide) (ig 1)) 0 0 rfl rfl [0, 15, 16, 18] [] (lw_V q764 q766 qs14 q26 q767) nvX1_instrument rfl rfl rfl rfl (Nat.le_of_ble_eq_true rfl) dX1_setTrack_8 ⟨Nat.le_of_ble_eq_true rfl, Nat.le_of_ble_eq_true rfl⟩ ⟨Nat.le_of_ble_eq_true rfl, Nat.le_of_ble_eq_true rfl⟩ (fun r_27 ur_27 hr_27 => ?_)
          obtain rfl : some (ad 5) = r_27 := (hr_27).symm
          refine g_eqs (st' := [.ref (ad 5)]) rfl ?_
          refine g_pop B dX1_setTrack_11 rfl ?_
          refine g_aload_n B 3 0 dX1_setTrack_12 rfl rfl ?_
          refine g_getN (C := RX4) (T := TX4) (N := 4) B 3 5 0 (.int ((tr 2) 0)) in_X4 rfl q265 rfl (Nat.le_of_ble_eq_true rfl) (fun _ h9 => h9) rfl dX1_setTrack_13 ?_
          refine g_istore B [(4, .int ((tr 2) 0)), (3, .ref (ad 12)), (0, .ref (ad 0)), (1, .int 2), (2, .int 1)] dX1_setTrack_16 (Nat.le_of_ble_eq_true rfl) rfl ?_
          refine g_aload_n B 3 1 dX1_setTrack_18 rfl rfl ?_
          refine g_iload_n B 2 4 dX1_setTrack_19 rfl rfl ?_
          refine g_putN (C := RX4) (T := TX4) (N := 4) (ty := .int) (v := .int 1) B 3 5 0 [((ad 0), cM ad e0 mi lo su), ((ad 8), cA (ad 9) al3), ((ad 9), .inl (g.2.2.1, 10, .inr (.inr (.inr (.inr (tq ad)))))), ((ad 10), cT (ad 13) (ad 16) (ad 19) (tr 0)), ((ad 11), cT (ad 14) (ad 17) (ad 20) (tr 1)), ((ad 12), cT (ad 15) (ad 18) (ad 21) (upd (tr 2) 0 1)), ((ad 13), .inl (g.2.1, 8, .inl (tw 0 0))), ((ad 14), .inl (g.2.1, 8, .inl (tw 1 0))), ((ad 15), .inl (g.2.1, 8, .inl (tw 2 0))), ((ad 16), .inl (g.2.1, 8, .inl (tw 0 1))), ((ad 17), .inl (g.2.1, 8, .inl (tw 1 1))), ((ad 18), .inl (g.2.1, 8, .inl (tw 2 1))), ((ad 19), .inl (g.2.1, 8, .inl (tw 0 2))), ((ad 20), .inl (g.2.1, 8, .inl (tw 1 2))), ((ad 21), .inl (g.2.1, 8, .inl (tw 2 2))), ((ad 2), cA (ad 3) al4), ((ad 3), .inl (g.2.2.1, 10, .inr (.inr (.inr (.inr (iq ad)))))), ((ad 4), cI (ig 0)), ((ad 5), cI (ig 1)), ((ad 6), cI (ig 2)), ((ad 7), cI (ig 3))] in_X4 tyX4 tyX4_ok nmX4 rfl q265 rfl (Nat.le_of_ble_eq_true rfl) (fun _ h9 => h9) rfl rfl rfl rfl (Nat.le_of_ble_eq_true rfl) rfl dX1_setTrack_20 ?_
          refine g_iload B 0 dX1_setTrack_23 rfl ?_
          exact g_xiret B hr dX1_setTrack_25 (Nat.le_of_ble_eq_true rfl) (Nat.le_of_ble_eq_true rfl) () ⟨(by first | (simp only [k_track, if_pos b_1, te_3, if_pos b_23, te_25]; done) | (simp only [k_track, if_pos b_1, te_3, if_pos b_23, te_25]; rfl) | rfl), (by first | (simp only [if_pos b_1, te_3, if_pos b_23, te_25]; done) | (simp only [if_pos b_1, te_3, if_pos b_23, te_25]; rfl) | rfl)⟩ [0, 1, 2, 3, 4, 5, 6, 7, 8, 9, 10, 11, 12, 13, 14, 15, 16, 17, 18, 19, 20] rfl (by first | (simp only [if_pos b_1, te_3, if_pos b_23, te_25]; rfl) | rfl | (rw [e_3, e_25]; rfl))
        · skip
          replace e_25 : i = 2 := e_25
          have te_25 : i.toNatClampNeg = 2 := by rw [e_25]; decide
          refine g_lvq (lv' := [(3, .ref (ad 12)), (0, .ref (ad 0)), (1, .int 2), (2, .int 2)]) (by rw [e_25]) ?_
          refine g_aload_n B 0 1 dX1_setTrack_6 rfl rfl ?_
          refine g_iload_n B 2 3 dX1_setTrack_7 rfl rfl ?_
          refine g_cuV_q (C := RX1) (T := TX1) (N := 17) (As := [.int 2]) B (m_X1_instrument l hst g ad e0 mi lo su 2 2 (by decide) (by decide) (ig 2)) 0 0 rfl rfl [0, 15, 16, 19] [] (lw_V q764 q766 qs14 q26 q767) nvX1_instrument rfl rfl rfl rfl (Nat.le_of_ble_eq_true rfl) dX1_setTrack_8 ⟨Nat.le_of_ble_eq_true rfl, Nat.le_of_ble_eq_true rfl⟩ ⟨Nat.le_of_ble_eq_true rfl, Nat.le_of_ble_eq_true rfl⟩ (fun r_28 ur_28 hr_28 => ?_)
          obtain rfl : some (ad 6) = r_28 := (hr_28).symm
          refine g_eqs (st' := [.ref (ad 6)]) rfl ?_
          refine g_pop B dX1_setTrack_11 rfl ?_
          refine g_aload_n B 3 0 dX1_setTrack_12 rfl rfl ?_
          refine g_getN (C := RX4) (T := TX4) (N := 4) B 3 5 0 (.int ((tr 2) 0)) in_X4 rfl q265 rfl (Nat.le_of_ble_eq_true rfl) (fun _ h9 => h9) rfl dX1_setTrack_13 ?_
          refine g_istore B [(4, .int ((tr 2) 0)), (3, .ref (ad 12)), (0, .ref (ad 0)), (1, .int 2), (2, .int 2)] dX1_setTrack_16 (Nat.le_of_ble_eq_true rfl) rfl ?_
          refine g_aload_n B 3 1 dX1_setTrack_18 rfl rfl ?_
          refine g_iload_n B 2 4 dX1_setTrack_19 rfl rfl ?_
          refine g_putN (C := RX4) (T := TX4) (N := 4) (ty := .int) (v := .int 2) B 3 5 0 [((ad 0), cM ad e0 mi lo su), ((ad 8), cA (ad 9) al3), ((ad 9), .inl (g.2.2.1, 10, .inr (.inr (.inr (.inr (tq ad)))))), ((ad 10), cT (ad 13) (ad 16) (ad 19) (tr 0)), ((ad 11), cT (ad 14) (ad 17) (ad 20) (tr 1)), ((ad 12), cT (ad 15) (ad 18) (ad 21) (upd (tr 2) 0 2)), ((ad 13), .inl (g.2.1, 8, .inl (tw 0 0))), ((ad 14), .inl (g.2.1, 8, .inl (tw 1 0))), ((ad 15), .inl (g.2.1, 8, .inl (tw 2 0))), ((ad 16), .inl (g.2.1, 8, .inl (tw 0 1))), ((ad 17), .inl (g.2.1, 8, .inl (tw 1 1))), ((ad 18), .inl (g.2.1, 8, .inl (tw 2 1))), ((ad 19), .inl (g.2.1, 8, .inl (tw 0 2))), ((ad 20), .inl (g.2.1, 8, .inl (tw 1 2))), ((ad 21), .inl (g.2.1, 8, .inl (tw 2 2))), ((ad 2), cA (ad 3) al4), ((ad 3), .inl (g.2.2.1, 10, .inr (.inr (.inr (.inr (iq ad)))))), ((ad 4), cI (ig 0)), ((ad 5), cI (ig 1)), ((ad 6), cI (ig 2)), ((ad 7), cI (ig 3))] in_X4 tyX4 tyX4_ok nmX4 rfl q265 rfl (Nat.le_of_ble_eq_true rfl) (fun _ h9 => h9) rfl rfl rfl rfl (Nat.le_of_ble_eq_true rfl) rfl dX1_setTrack_20 ?_
          refine g_iload B 0 dX1_setTrack_23 rfl ?_
          exact g_xiret B hr dX1_setTrack_25 (Nat.le_of_ble_eq_true rfl) (Nat.le_of_ble_eq_true rfl) () ⟨(by first | (simp only [k_track, if_pos b_1, te_3, if_pos b_23, te_25]; done) | (simp only [k_track, if_pos b_1, te_3, if_pos b_23, te_25]; rfl) | rfl), (by first | (simp only [if_pos b_1, te_3, if_pos b_23, te_25]; done) | (simp only [if_pos b_1, te_3, if_pos b_23, te_25]; rfl) | rfl)⟩ [0, 1, 2, 3, 4, 5, 6, 7, 8, 9, 10, 11, 12, 13, 14, 15, 16, 17, 18, 19, 20] rfl (by first | (simp only [if_pos b_1, te_3, if_pos b_23, te_25]; rfl) | rfl | (rw [e_3, e_25]; rfl))
        · skip
          replace e_25 : i = 3 := e_25
          have te_25 : i.toNatClampNeg = 3 := by rw [e_25]; decide
          refine g_lvq (lv' := [(3, .ref (ad 12)), (0, .ref (ad 0)), (1, .int 2), (2, .int 3)]) (by rw [e_25]) ?_
          refine g_aload_n B 0 1 dX1_setTrack_6 rfl rfl ?_
          refine g_iload_n B 2 3 dX1_setTrack_7 rfl rfl ?_
          refine g_cuV_q (C := RX1) (T := TX1) (N := 17) (As := [.int 3]) B (m_X1_instrument l hst g ad e0 mi lo su 3 3 (by decide) (by decide) (ig 3)) 0 0 rfl rfl [0, 15, 16, 20] [] (lw_V q764 q766 qs14 q26 q767) nvX1_instrument rfl rfl rfl rfl (Nat.le_of_ble_eq_true rfl) dX1_setTrack_8 ⟨Nat.le_of_ble_eq_true rfl, Nat.le_of_ble_eq_true rfl⟩ ⟨Nat.le_of_ble_eq_true rfl, Nat.le_of_ble_eq_true rfl⟩ (fun r_29 ur_29 hr_29 => ?_)
          obtain rfl : some (ad 7) = r_29 := (hr_29).symm
          refine g_eqs (st' := [.ref (ad 7)]) rfl ?_
          refine g_pop B dX1_setTrack_11 rfl ?_
          refine g_aload_n B 3 0 dX1_setTrack_12 rfl rfl ?_
          refine g_getN (C := RX4) (T := TX4) (N := 4) B 3 5 0 (.int ((tr 2) 0)) in_X4 rfl q265 rfl (Nat.le_of_ble_eq_true rfl) (fun _ h9 => h9) rfl dX1_setTrack_13 ?_
          refine g_istore B [(4, .int ((tr 2) 0)), (3, .ref (ad 12)), (0, .ref (ad 0)), (1, .int 2), (2, .int 3)] dX1_setTrack_16 (Nat.le_of_ble_eq_true rfl) rfl ?_
          refine g_aload_n B 3 1 dX1_setTrack_18 rfl rfl ?_
          refine g_iload_n B 2 4 dX1_setTrack_19 rfl rfl ?_
          refine g_putN (C := RX4) (T := TX4) (N := 4) (ty := .int) (v := .int 3) B 3 5 0 [((ad 0), cM ad e0 mi lo su), ((ad 8), cA (ad 9) al3), ((ad 9), .inl (g.2.2.1, 10, .inr (.inr (.inr (.inr (tq ad)))))), ((ad 10), cT (ad 13) (ad 16) (ad 19) (tr 0)), ((ad 11), cT (ad 14) (ad 17) (ad 20) (tr 1)), ((ad 12), cT (ad 15) (ad 18) (ad 21) (upd (tr 2) 0 3)), ((ad 13), .inl (g.2.1, 8, .inl (tw 0 0))), ((ad 14), .inl (g.2.1, 8, .inl (tw 1 0))), ((ad 15), .inl (g.2.1, 8, .inl (tw 2 0))), ((ad 16), .inl (g.2.1, 8, .inl (tw 0 1))), ((ad 17), .inl (g.2.1, 8, .inl (tw 1 1))), ((ad 18), .inl (g.2.1, 8, .inl (tw 2 1))), ((ad 19), .inl (g.2.1, 8, .inl (tw 0 2))), ((ad 20), .inl (g.2.1, 8, .inl (tw 1 2))), ((ad 21), .inl (g.2.1, 8, .inl (tw 2 2))), ((ad 2), cA (ad 3) al4), ((ad 3), .inl (g.2.2.1, 10, .inr (.inr (.inr (.inr (iq ad)))))), ((ad 4), cI (ig 0)), ((ad 5), cI (ig 1)), ((ad 6), cI (ig 2)), ((ad 7), cI (ig 3))] in_X4 tyX4 tyX4_ok nmX4 rfl q265 rfl (Nat.le_of_ble_eq_true rfl) (fun _ h9 => h9) rfl rfl rfl rfl (Nat.le_of_ble_eq_true rfl) rfl dX1_setTrack_20 ?_
          refine g_iload B 0 dX1_setTrack_23 rfl ?_
          exact g_xiret B hr dX1_setTrack_25 (Nat.le_of_ble_eq_true rfl) (Nat.le_of_ble_eq_true rfl) () ⟨(by first | (simp only [k_track, if_pos b_1, te_3, if_pos b_23, te_25]; done) | (simp only [k_track, if_pos b_1, te_3, if_pos b_23, te_25]; rfl) | rfl), (by first | (simp only [if_pos b_1, te_3, if_pos b_23, te_25]; done) | (simp only [if_pos b_1, te_3, if_pos b_23, te_25]; rfl) | rfl)⟩ [0, 1, 2, 3, 4, 5, 6, 7, 8, 9, 10, 11, 12, 13, 14, 15, 16, 17, 18, 19, 20] rfl (by first | (simp only [if_pos b_1, te_3, if_pos b_23, te_25]; rfl) | rfl | (rw [e_3, e_25]; rfl))
      · skip
        refine g_aload_n B 0 1 dX1_setTrack_6 rfl rfl ?_
        refine g_iload_n B 2 3 dX1_setTrack_7 rfl rfl ?_
        refine g_xuV_q (C := RX1) (T := TX1) (N := 17) (As := [.int i]) B (m_X1_instrument_b l hst g ad e0 mi lo su i b_23) 0 0 rfl rfl [0] [] (lw_V q764 q766 qs14 q26 q767) nvX1_instrument rfl rfl rfl rfl (Nat.le_of_ble_eq_true rfl) dX1_setTrack_8 ⟨Nat.le_of_ble_eq_true rfl, Nat.le_of_ble_eq_true rfl⟩ ⟨Nat.le_of_ble_eq_true rfl, Nat.le_of_ble_eq_true rfl⟩ (fun E hE => ?_) (fun r_30 ur_30 hr_30 => ?_)
        · skip
          have hK9 : ¬ (ix_k i 4) = 0 := by rw [hE.2]; decide
          exact g_xout B hT hA9 (Nat.le_of_ble_eq_true rfl) (Nat.le_of_ble_eq_true rfl) ⟨hE.1, (by first | exact hE.2 | (simp only [k_track, if_pos b_1, te_3, if_neg b_23, if_neg hK9]; done) | (simp only [k_track, if_pos b_1, te_3, if_neg b_23, if_neg hK9]; rfl) | rfl)⟩ [0, 1, 2, 3, 4, 5, 6, 7, 8, 9, 10, 11, 12, 13, 14, 15, 16, 17, 18, 19, 20] rfl rfl
        have kr_30 : (ix_k i 4) = 0 := hr_30.1
        replace hr_30 := hr_30.2
        exact absurd kr_30 b_23
  · skip
    refine g_aload_n B 0 0 dX1_setTrack_0 rfl rfl ?_
    refine g_iload_n B 1 1 dX1_setTrack_1 rfl rfl ?_
    refine g_xuV_q (C := RX1) (T := TX1) (N := 17) (As := [.int t]) B (m_X1_track_b l hst g ad e0 mi lo su t b_1) 0 0 rfl rfl [0] [] (lw_V q691 q693 qs13 q26 q694) nvX1_track rfl rfl rfl rfl (Nat.le_of_ble_eq_true rfl) dX1_setTrack_2 ⟨Nat.le_of_ble_eq_true rfl, Nat.le_of_ble_eq_true rfl⟩ ⟨Nat.le_of_ble_eq_true rfl, Nat.le_of_ble_eq_true rfl⟩ (fun E hE => ?_) (fun r_31 ur_31 hr_31 => ?_)
    · skip
      have hK9 : ¬ (ix_k t 3) = 0 := by rw [hE.2]; decide
      exact g_xout B hT hA9 (Nat.le_of_ble_eq_true rfl) (Nat.le_of_ble_eq_true rfl) ⟨hE.1, (by first | exact hE.2 | (simp only [k_track, if_neg b_1, if_neg hK9]; done) | (simp only [k_track, if_neg b_1, if_neg hK9]; rfl) | rfl)⟩ [0, 1, 2, 3, 4, 5, 6, 7, 8, 9, 10, 11, 12, 13, 14, 15, 16, 17, 18, 19, 20] rfl rfl
    have kr_31 : (ix_k t 3) = 0 := hr_31.1
    replace hr_31 := hr_31.2
    exact absurd kr_31 b_1

set_option maxHeartbeats 4000000 in
set_option maxRecDepth 100000 in
theorem m_X1_play (l : Launch) (hst : l.stackTraces = false) (g : gG) (ad ed : Nat → Nat) (mi : Nat → Int32) (lo su : Int64) (en : Nat → Int32) (j : Int32) (hp : en 4 = 0 ∨ en 4 = 1) : gXi l yX1_play cX1_play 3 .boolean 7 110 8 48 g [((ad 0), cM ad (ed 0) mi lo su), ((ed 0), cE (ed 1) (ed 7) (ad 0) en)] [.ref (ad 0), .int j] (fun (r : Int32) (_ : Unit) => (k_play j) = 0 ∧ r = en 4) (fun _ : Unit => [((ad 0), cM ad (ed 0) mi lo su), ((ed 0), cE (ed 1) (ed 7) (ad 0) (s_play en j))]) (fun E : String => E = eIO ∧ (k_play j) = 1) := by
  intro sz
  refine g_xent (by decide) hst [(0, .ref (ad 0)), (1, .int j)] (Nat.le_of_ble_eq_true rfl) rfl ?_
  intro p e s m below meth c B hr hnm hsz hT
  have B : gB p l s m ([.ref (ad 0), .int j] : List Value).toArray meth c RX1 cX1_play 3 g (va_A [((ad 0), cM ad (ed 0) mi lo su), ((ed 0), cE (ed 1) (ed 7) (ad 0) en)] sz) := B
  have hA9 : (va_A [((ad 0), cM ad (ed 0) mi lo su), ((ed 0), cE (ed 1) (ed 7) (ad 0) en)] sz) = va_A [((ad 0), cM ad (ed 0) mi lo su), ((ed 0), cE (ed 1) (ed 7) (ad 0) en)] s.heap.size := by rw [hsz]
  subst hsz
  refine g_iload_n B 1 1 dX1_play_0 rfl rfl ?_
  refine g_bipush (v := 8) B dX1_play_1 kb_8 ?_
  refine g_xuS_v (As := [.int j, .int 8]) B (m_X1_requireIndex l hst g j 8) [] [] (lw_S q669 q670 q26 q671) nsX1_requireIndex rfl rfl rfl rfl (Nat.le_of_ble_eq_true rfl) dX1_play_3 ⟨Nat.le_of_ble_eq_true rfl, Nat.le_of_ble_eq_true rfl⟩ ⟨Nat.le_of_ble_eq_true rfl, Nat.le_of_ble_eq_true rfl⟩ (fun E hE => ?_) (fun ur_1 hr_1 => ?_)
  · skip
    have hK9 : ¬ (ix_k j 8) = 0 := by rw [hE.2]; decide
    exact g_xout B hT hA9 (Nat.le_of_ble_eq_true rfl) (Nat.le_of_ble_eq_true rfl) ⟨hE.1, (by first | exact hE.2 | (simp only [k_play, if_neg hK9]; done) | (simp only [k_play, if_neg hK9]; rfl) | rfl)⟩ [0, 1] rfl rfl
  have kr_1 : (ix_k j 8) = 0 := hr_1
  refine g_aload_n B 0 0 dX1_play_6 rfl rfl ?_
  refine g_get (C := RX1) (T := TX1) (N := 17) B 0 0 9 (.ref (ed 0)) in_X1 rfl q359 rfl (Nat.le_of_ble_eq_true rfl) (fun _ h9 => h9) rfl dX1_play_7 ?_
  refine g_getN (C := RX2) (T := TX2) (N := 12) B 1 1 6 (.int (en 4)) in_X2 rfl q104 rfl (Nat.le_of_ble_eq_true rfl) (fun _ h9 => h9) rfl dX1_play_10 ?_
  refine g_istore_n B 2 [(2, .int (en 4)), (0, .ref (ad 0)), (1, .int j)] dX1_play_13 rfl (Nat.le_of_ble_eq_true rfl) rfl ?_
  refine g_aload_n B 0 1 dX1_play_14 rfl rfl ?_
  refine g_get (C := RX1) (T := TX1) (N := 17) B 0 0 9 (.ref (ed 0)) in_X1 rfl q359 rfl (Nat.le_of_ble_eq_true rfl) (fun _ h9 => h9) rfl dX1_play_15 ?_
  refine g_iconst (v := 1) B dX1_play_18 kc_1 ?_
  refine g_putN (C := RX2) (T := TX2) (N := 12) (ty := .boolean) (v := .int 1) B 1 1 6 [((ad 0), cM ad (ed 0) mi lo su), ((ed 0), cE (ed 1) (ed 7) (ad 0) (upd en 4 1))] in_X2 tyX2 tyX2_ok nmX2 rfl q104 rfl (Nat.le_of_ble_eq_true rfl) (fun _ h9 => h9) rfl rfl rfl rfl (Nat.le_of_ble_eq_true rfl) rfl dX1_play_19 ?_
  refine g_aload_n B 0 1 dX1_play_22 rfl rfl ?_
  refine g_get (C := RX1) (T := TX1) (N := 17) B 0 0 9 (.ref (ed 0)) in_X1 rfl q359 rfl (Nat.le_of_ble_eq_true rfl) (fun _ h9 => h9) rfl dX1_play_23 ?_
  refine g_iload_n B 1 2 dX1_play_26 rfl rfl ?_
  refine g_putN (C := RX2) (T := TX2) (N := 12) (ty := .int) (v := .int j) B 1 1 7 [((ad 0), cM ad (ed 0) mi lo su), ((ed 0), cE (ed 1) (ed 7) (ad 0) (upd (upd en 4 1) 5 j))] in_X2 tyX2 tyX2_ok nmX2 rfl q106 rfl (Nat.le_of_ble_eq_true rfl) (fun _ h9 => h9) rfl rfl rfl rfl (Nat.le_of_ble_eq_true rfl) rfl dX1_play_27 ?_
  refine g_aload_n B 0 1 dX1_play_30 rfl rfl ?_
  refine g_get (C := RX1) (T := TX1) (N := 17) B 0 0 9 (.ref (ed 0)) in_X1 rfl q359 rfl (Nat.le_of_ble_eq_true rfl) (fun _ h9 => h9) rfl dX1_play_31 ?_
  refine g_iconst (v := 0) B dX1_play_34 kc_0 ?_
  refine g_putN (C := RX2) (T := TX2) (N := 12) (ty := .int) (v := .int 0) B 1 1 8 [((ad 0), cM ad (ed 0) mi lo su), ((ed 0), cE (ed 1) (ed 7) (ad 0) (upd (upd (upd en 4 1) 5 j) 6 0))] in_X2 tyX2 tyX2_ok nmX2 rfl q108 rfl (Nat.le_of_ble_eq_true rfl) (fun _ h9 => h9) rfl rfl rfl rfl (Nat.le_of_ble_eq_true rfl) rfl dX1_play_35 ?_
  refine g_iload_n B 2 0 dX1_play_38 rfl rfl ?_
  exact g_xzret B hr (zb_n hp) dX1_play_39 (Nat.le_of_ble_eq_true rfl) (Nat.le_of_ble_eq_true rfl) () ⟨(by first | (simp only [k_play, if_pos kr_1]; done) | (simp only [k_play, if_pos kr_1]; rfl) | rfl), (by first | (simp only [if_pos kr_1]; done) | (simp only [if_pos kr_1]; rfl) | rfl)⟩ [0, 1] rfl (by first | (simp only [if_pos kr_1]; rfl) | rfl)

set_option maxHeartbeats 4000000 in
set_option maxRecDepth 100000 in
theorem m_X1_step (l : Launch) (hst : l.stackTraces = false) (g : gG) (ad ed : Nat → Nat) (mi : Nat → Int32) (lo su : Int64) (en : Nat → Int32) : gMi l yX1_step cX1_step 1 .int 0 0 0 0 g [((ad 0), cM ad (ed 0) mi lo su), ((ed 0), cE (ed 1) (ed 7) (ad 0) en)] [.ref (ad 0)] (fun (r : Int32) (_ : Unit) => r = p_step en) (fun _ : Unit => [((ad 0), cM ad (ed 0) mi lo su), ((ed 0), cE (ed 1) (ed 7) (ad 0) en)]) := by
  intro sz
  refine g_ent (by decide) hst [(0, .ref (ad 0))] (Nat.le_of_ble_eq_true rfl) rfl ?_
  intro p e s m below meth c B hr hnm hsz
  have B : gB p l s m ([.ref (ad 0)] : List Value).toArray meth c RX1 cX1_step 1 g (va_A [((ad 0), cM ad (ed 0) mi lo su), ((ed 0), cE (ed 1) (ed 7) (ad 0) en)] sz) := B
  refine g_aload_n B 0 0 dX1_step_0 rfl rfl ?_
  refine g_get (C := RX1) (T := TX1) (N := 17) B 0 0 9 (.ref (ed 0)) in_X1 rfl q359 rfl (Nat.le_of_ble_eq_true rfl) (fun _ h9 => h9) rfl dX1_step_1 ?_
  refine g_getN (C := RX2) (T := TX2) (N := 12) B 1 1 6 (.int (en 4)) in_X2 rfl q104 rfl (Nat.le_of_ble_eq_true rfl) (fun _ h9 => h9) rfl dX1_step_4 ?_
  refine g_if_eq (tgt := 20) B dX1_step_7 (by decide) (fun c_1 => ?_) (fun c_1 => ?_)
  · skip
    refine g_iconst (v := (-1)) B dX1_step_20 kc_m1 ?_
    exact g_iret B hr dX1_step_21 (Nat.le_of_ble_eq_true rfl) (Nat.le_of_ble_eq_true rfl) () (by first | (simp only [p_step, if_pos c_1]; done) | (simp only [p_step, if_pos c_1]; rfl) | rfl) [0, 1] rfl rfl
  · skip
    refine g_aload_n B 0 0 dX1_step_10 rfl rfl ?_
    refine g_get (C := RX1) (T := TX1) (N := 17) B 0 0 9 (.ref (ed 0)) in_X1 rfl q359 rfl (Nat.le_of_ble_eq_true rfl) (fun _ h9 => h9) rfl dX1_step_11 ?_
    refine g_getN (C := RX2) (T := TX2) (N := 12) B 1 1 7 (.int (en 5)) in_X2 rfl q106 rfl (Nat.le_of_ble_eq_true rfl) (fun _ h9 => h9) rfl dX1_step_14 ?_
    refine g_goto (tgt := 21) B dX1_step_17 (by decide) ?_
    exact g_iret B hr dX1_step_21 (Nat.le_of_ble_eq_true rfl) (Nat.le_of_ble_eq_true rfl) () (by first | (simp only [p_step, if_neg c_1]; done) | (simp only [p_step, if_neg c_1]; rfl) | rfl) [0, 1] rfl rfl

set_option maxHeartbeats 4000000 in
set_option maxRecDepth 100000 in
theorem m_X1_stop (l : Launch) (hst : l.stackTraces = false) (g : gG) (ad ed : Nat → Nat) (mi : Nat → Int32) (lo su : Int64) (en : Nat → Int32) : gMi l yX1_stop cX1_stop 2 .int 1 20 0 0 g [((ad 0), cM ad (ed 0) mi lo su), ((ed 0), cE (ed 1) (ed 7) (ad 0) en)] [.ref (ad 0)] (fun (r : Int32) (_ : Unit) => r = p_step en) (fun _ : Unit => [((ad 0), cM ad (ed 0) mi lo su), ((ed 0), cE (ed 1) (ed 7) (ad 0) (upd en 4 0))]) := by
  intro sz
  refine g_ent (by decide) hst [(0, .ref (ad 0))] (Nat.le_of_ble_eq_true rfl) rfl ?_
  intro p e s m below meth c B hr hnm hsz
  have B : gB p l s m ([.ref (ad 0)] : List Value).toArray meth c RX1 cX1_stop 2 g (va_A [((ad 0), cM ad (ed 0) mi lo su), ((ed 0), cE (ed 1) (ed 7) (ad 0) en)] sz) := B
  refine g_aload_n B 0 0 dX1_stop_0 rfl rfl ?_
  refine g_cuV_i (C := RX1) (T := TX1) (N := 17) (As := []) B (m_X1_step l hst g ad ed mi lo su en) 0 0 rfl rfl [0, 1] [] (lw_V q434 q435 q436 q26 q437) nvX1_step rfl rfl rfl rfl (Nat.le_of_ble_eq_true rfl) dX1_stop_1 ⟨Nat.le_of_ble_eq_true rfl, Nat.le_of_ble_eq_true rfl⟩ ⟨Nat.le_of_ble_eq_true rfl, Nat.le_of_ble_eq_true rfl⟩ (fun r_1 ur_1 hr_1 => ?_)
  have hr_1 : r_1 = p_step en := hr_1
  refine g_istore_n B 1 [(1, .int r_1), (0, .ref (ad 0))] dX1_stop_4 rfl (Nat.le_of_ble_eq_true rfl) rfl ?_
  refine g_aload_n B 0 1 dX1_stop_5 rfl rfl ?_
  refine g_get (C := RX1) (T := TX1) (N := 17) B 0 0 9 (.ref (ed 0)) in_X1 rfl q359 rfl (Nat.le_of_ble_eq_true rfl) (fun _ h9 => h9) rfl dX1_stop_6 ?_
  refine g_iconst (v := 0) B dX1_stop_9 kc_0 ?_
  refine g_putN (C := RX2) (T := TX2) (N := 12) (ty := .boolean) (v := .int 0) B 1 1 6 [((ad 0), cM ad (ed 0) mi lo su), ((ed 0), cE (ed 1) (ed 7) (ad 0) (upd en 4 0))] in_X2 tyX2 tyX2_ok nmX2 rfl q104 rfl (Nat.le_of_ble_eq_true rfl) (fun _ h9 => h9) rfl rfl rfl rfl (Nat.le_of_ble_eq_true rfl) rfl dX1_stop_10 ?_
  refine g_iload_n B 1 0 dX1_stop_13 rfl rfl ?_
  subst hr_1
  exact g_iret B hr dX1_stop_14 (Nat.le_of_ble_eq_true rfl) (Nat.le_of_ble_eq_true rfl) () rfl [0, 1] rfl rfl

set_option maxHeartbeats 4000000 in
set_option maxRecDepth 100000 in
theorem m_X1_heard (l : Launch) (hst : l.stackTraces = false) (g : gG) (ad : Nat → Nat) (e0 : Nat) (mi : Nat → Int32) (lo su : Int64) (hd : Nat → Int32) (b : Int32) : gXi l yX1_heard cX1_heard 2 .int 8 131 1 6 g [((ad 0), cM ad e0 mi lo su), ((ad 22), .inl (g.2.1, 64, .inl hd))] [.ref (ad 0), .int b] (fun (r : Int32) (_ : Unit) => (k_heard b) = 0 ∧ r = hd b.toNatClampNeg) (fun _ : Unit => [((ad 0), cM ad e0 mi lo su), ((ad 22), .inl (g.2.1, 64, .inl hd))]) (fun E : String => E = eIA ∧ (k_heard b) = 1) := by
  intro sz
  refine g_xent (by decide) hst [(0, .ref (ad 0)), (1, .int b)] (Nat.le_of_ble_eq_true rfl) rfl ?_
  intro p e s m below meth c B hr hnm hsz hT
  have B : gB p l s m ([.ref (ad 0), .int b] : List Value).toArray meth c RX1 cX1_heard 2 g (va_A [((ad 0), cM ad e0 mi lo su), ((ad 22), .inl (g.2.1, 64, .inl hd))] sz) := B
  have hA9 : (va_A [((ad 0), cM ad e0 mi lo su), ((ad 22), .inl (g.2.1, 64, .inl hd))] sz) = va_A [((ad 0), cM ad e0 mi lo su), ((ad 22), .inl (g.2.1, 64, .inl hd))] s.heap.size := by rw [hsz]
  subst hsz
  refine g_iconst (v := 0) B dX1_heard_0 kc_0 ?_
  refine g_bipush (v := 63) B dX1_heard_1 kb_63 ?_
  refine g_iload_n B 1 1 dX1_heard_3 rfl rfl ?_
  refine g_xuS_v (As := [.int 0, .int 63, .int b]) B (m_X1_requireFrom l hst g 0 63 b) [] [] (lw_S q580 q581 q26 q582) nsX1_requireFrom rfl rfl rfl rfl (Nat.le_of_ble_eq_true rfl) dX1_heard_4 ⟨Nat.le_of_ble_eq_true rfl, Nat.le_of_ble_eq_true rfl⟩ ⟨Nat.le_of_ble_eq_true rfl, Nat.le_of_ble_eq_true rfl⟩ (fun E hE => ?_) (fun ur_1 hr_1 => ?_)
  · skip
    have hK9 : ¬ (fr_k 0 63 b) = 0 := by rw [hE.2]; decide
    exact g_xout B hT hA9 (Nat.le_of_ble_eq_true rfl) (Nat.le_of_ble_eq_true rfl) ⟨hE.1, (by first | exact hE.2 | (simp only [k_heard, if_neg hK9]; done) | (simp only [k_heard, if_neg hK9]; rfl) | rfl)⟩ [0, 1] rfl rfl
  have kr_1 : (fr_k 0 63 b) = 0 := hr_1
  refine g_aload_n B 0 0 dX1_heard_7 rfl rfl ?_
  refine g_get (C := RX1) (T := TX1) (N := 17) B 0 0 10 (.ref (ad 22)) in_X1 rfl q360 rfl (Nat.le_of_ble_eq_true rfl) (fun _ h9 => h9) rfl dX1_heard_8 ?_
  refine g_iload_n B 1 1 dX1_heard_11 rfl rfl ?_
  refine g_iald B 1 b.toNatClampNeg rfl rfl (fr_in kr_1 (by decide)) dX1_heard_12 ?_
  refine g_topi (fun x_2 ex_2 => ?_)
  subst ex_2
  exact g_xiret B hr dX1_heard_13 (Nat.le_of_ble_eq_true rfl) (Nat.le_of_ble_eq_true rfl) () ⟨(by first | (simp only [k_heard, if_pos kr_1]; done) | (simp only [k_heard, if_pos kr_1]; rfl) | rfl), (by first | (simp only [if_pos kr_1]; done) | (simp only [if_pos kr_1]; rfl) | rfl)⟩ [0, 1] rfl rfl

set_option maxHeartbeats 4000000 in
set_option maxRecDepth 100000 in
theorem m_X1_clock (l : Launch) (hst : l.stackTraces = false) (g : gG) (ad ed : Nat → Nat) (mi : Nat → Int32) (lo su : Int64) (en : Nat → Int32) : gMi l yX1_clock cX1_clock 1 .int 0 0 0 0 g [((ad 0), cM ad (ed 0) mi lo su), ((ed 0), cE (ed 1) (ed 7) (ad 0) en)] [.ref (ad 0)] (fun (r : Int32) (_ : Unit) => r = en 1) (fun _ : Unit => [((ad 0), cM ad (ed 0) mi lo su), ((ed 0), cE (ed 1) (ed 7) (ad 0) en)]) := by
  intro sz
  refine g_ent (by decide) hst [(0, .ref (ad 0))] (Nat.le_of_ble_eq_true rfl) rfl ?_
  intro p e s m below meth c B hr hnm hsz
  have B : gB p l s m ([.ref (ad 0)] : List Value).toArray meth c RX1 cX1_clock 1 g (va_A [((ad 0), cM ad (ed 0) mi lo su), ((ed 0), cE (ed 1) (ed 7) (ad 0) en)] sz) := B
  refine g_aload_n B 0 0 dX1_clock_0 rfl rfl ?_
  refine g_get (C := RX1) (T := TX1) (N := 17) B 0 0 9 (.ref (ed 0)) in_X1 rfl q359 rfl (Nat.le_of_ble_eq_true rfl) (fun _ h9 => h9) rfl dX1_clock_1 ?_
  refine g_getN (C := RX2) (T := TX2) (N := 12) B 1 1 3 (.int (en 1)) in_X2 rfl q99 rfl (Nat.le_of_ble_eq_true rfl) (fun _ h9 => h9) rfl dX1_clock_4 ?_
  exact g_iret B hr dX1_clock_7 (Nat.le_of_ble_eq_true rfl) (Nat.le_of_ble_eq_true rfl) () rfl [0, 1] rfl rfl

set_option maxHeartbeats 4000000 in
set_option maxRecDepth 100000 in
theorem m_X1_taken (l : Launch) (hst : l.stackTraces = false) (g : gG) (ad ed : Nat → Nat) (mi : Nat → Int32) (lo su : Int64) (en : Nat → Int32) : gMi l yX1_taken cX1_taken 1 .int 0 0 0 0 g [((ad 0), cM ad (ed 0) mi lo su), ((ed 0), cE (ed 1) (ed 7) (ad 0) en)] [.ref (ad 0)] (fun (r : Int32) (_ : Unit) => r = en 3) (fun _ : Unit => [((ad 0), cM ad (ed 0) mi lo su), ((ed 0), cE (ed 1) (ed 7) (ad 0) en)]) := by
  intro sz
  refine g_ent (by decide) hst [(0, .ref (ad 0))] (Nat.le_of_ble_eq_true rfl) rfl ?_
  intro p e s m below meth c B hr hnm hsz
  have B : gB p l s m ([.ref (ad 0)] : List Value).toArray meth c RX1 cX1_taken 1 g (va_A [((ad 0), cM ad (ed 0) mi lo su), ((ed 0), cE (ed 1) (ed 7) (ad 0) en)] sz) := B
  refine g_aload_n B 0 0 dX1_taken_0 rfl rfl ?_
  refine g_get (C := RX1) (T := TX1) (N := 17) B 0 0 9 (.ref (ed 0)) in_X1 rfl q359 rfl (Nat.le_of_ble_eq_true rfl) (fun _ h9 => h9) rfl dX1_taken_1 ?_
  refine g_getN (C := RX2) (T := TX2) (N := 12) B 1 1 5 (.int (en 3)) in_X2 rfl q102 rfl (Nat.le_of_ble_eq_true rfl) (fun _ h9 => h9) rfl dX1_taken_4 ?_
  exact g_iret B hr dX1_taken_7 (Nat.le_of_ble_eq_true rfl) (Nat.le_of_ble_eq_true rfl) () rfl [0, 1] rfl rfl

set_option maxHeartbeats 4000000 in
set_option maxRecDepth 100000 in
theorem m_X1_isPlaying (l : Launch) (hst : l.stackTraces = false) (g : gG) (ad ed : Nat → Nat) (mi : Nat → Int32) (lo su : Int64) (en : Nat → Int32) (hp : en 4 = 0 ∨ en 4 = 1) : gMi l yX1_isPlaying cX1_isPlaying 1 .boolean 0 0 0 0 g [((ad 0), cM ad (ed 0) mi lo su), ((ed 0), cE (ed 1) (ed 7) (ad 0) en)] [.ref (ad 0)] (fun (r : Int32) (_ : Unit) => r = en 4) (fun _ : Unit => [((ad 0), cM ad (ed 0) mi lo su), ((ed 0), cE (ed 1) (ed 7) (ad 0) en)]) := by
  intro sz
  refine g_ent (by decide) hst [(0, .ref (ad 0))] (Nat.le_of_ble_eq_true rfl) rfl ?_
  intro p e s m below meth c B hr hnm hsz
  have B : gB p l s m ([.ref (ad 0)] : List Value).toArray meth c RX1 cX1_isPlaying 1 g (va_A [((ad 0), cM ad (ed 0) mi lo su), ((ed 0), cE (ed 1) (ed 7) (ad 0) en)] sz) := B
  refine g_aload_n B 0 0 dX1_isPlaying_0 rfl rfl ?_
  refine g_get (C := RX1) (T := TX1) (N := 17) B 0 0 9 (.ref (ed 0)) in_X1 rfl q359 rfl (Nat.le_of_ble_eq_true rfl) (fun _ h9 => h9) rfl dX1_isPlaying_1 ?_
  refine g_getN (C := RX2) (T := TX2) (N := 12) B 1 1 6 (.int (en 4)) in_X2 rfl q104 rfl (Nat.le_of_ble_eq_true rfl) (fun _ h9 => h9) rfl dX1_isPlaying_4 ?_
  exact g_zret B hr (zb_n hp) dX1_isPlaying_7 (Nat.le_of_ble_eq_true rfl) (Nat.le_of_ble_eq_true rfl) () rfl [0, 1] rfl rfl

set_option maxHeartbeats 4000000 in
set_option maxRecDepth 100000 in
theorem m_X1_peak (l : Launch) (hst : l.stackTraces = false) (g : gG) (ad : Nat → Nat) (e0 : Nat) (mi : Nat → Int32) (lo su : Int64) : gMi l yX1_peak cX1_peak 1 .int 0 0 0 0 g [((ad 0), cM ad e0 mi lo su)] [.ref (ad 0)] (fun (r : Int32) (_ : Unit) => r = mi 7) (fun _ : Unit => [((ad 0), cM ad e0 mi lo su)]) := by
  intro sz
  refine g_ent (by decide) hst [(0, .ref (ad 0))] (Nat.le_of_ble_eq_true rfl) rfl ?_
  intro p e s m below meth c B hr hnm hsz
  have B : gB p l s m ([.ref (ad 0)] : List Value).toArray meth c RX1 cX1_peak 1 g (va_A [((ad 0), cM ad e0 mi lo su)] sz) := B
  refine g_aload_n B 0 0 dX1_peak_0 rfl rfl ?_
  refine g_get (C := RX1) (T := TX1) (N := 17) B 0 0 12 (.int (mi 7)) in_X1 rfl q362 rfl (Nat.le_of_ble_eq_true rfl) (fun _ h9 => h9) rfl dX1_peak_1 ?_
  exact g_iret B hr dX1_peak_4 (Nat.le_of_ble_eq_true rfl) (Nat.le_of_ble_eq_true rfl) () rfl [0] rfl rfl

set_option maxHeartbeats 4000000 in
set_option maxRecDepth 100000 in
theorem m_X1_clipped (l : Launch) (hst : l.stackTraces = false) (g : gG) (ad : Nat → Nat) (e0 : Nat) (mi : Nat → Int32) (lo su : Int64) : gMi l yX1_clipped cX1_clipped 1 .int 0 0 0 0 g [((ad 0), cM ad e0 mi lo su)] [.ref (ad 0)] (fun (r : Int32) (_ : Unit) => r = mi 8) (fun _ : Unit => [((ad 0), cM ad e0 mi lo su)]) := by
  intro sz
  refine g_ent (by decide) hst [(0, .ref (ad 0))] (Nat.le_of_ble_eq_true rfl) rfl ?_
  intro p e s m below meth c B hr hnm hsz
  have B : gB p l s m ([.ref (ad 0)] : List Value).toArray meth c RX1 cX1_clipped 1 g (va_A [((ad 0), cM ad e0 mi lo su)] sz) := B
  refine g_aload_n B 0 0 dX1_clipped_0 rfl rfl ?_
  refine g_get (C := RX1) (T := TX1) (N := 17) B 0 0 14 (.int (mi 8)) in_X1 rfl q364 rfl (Nat.le_of_ble_eq_true rfl) (fun _ h9 => h9) rfl dX1_clipped_1 ?_
  exact g_iret B hr dX1_clipped_4 (Nat.le_of_ble_eq_true rfl) (Nat.le_of_ble_eq_true rfl) () rfl [0] rfl rfl

set_option maxHeartbeats 4000000 in
set_option maxRecDepth 100000 in
theorem m_X1_crossings (l : Launch) (hst : l.stackTraces = false) (g : gG) (ad : Nat → Nat) (e0 : Nat) (mi : Nat → Int32) (lo su : Int64) : gMi l yX1_crossings cX1_crossings 1 .int 0 0 0 0 g [((ad 0), cM ad e0 mi lo su)] [.ref (ad 0)] (fun (r : Int32) (_ : Unit) => r = mi 9) (fun _ : Unit => [((ad 0), cM ad e0 mi lo su)]) := by
  intro sz
  refine g_ent (by decide) hst [(0, .ref (ad 0))] (Nat.le_of_ble_eq_true rfl) rfl ?_
  intro p e s m below meth c B hr hnm hsz
  have B : gB p l s m ([.ref (ad 0)] : List Value).toArray meth c RX1 cX1_crossings 1 g (va_A [((ad 0), cM ad e0 mi lo su)] sz) := B
  refine g_aload_n B 0 0 dX1_crossings_0 rfl rfl ?_
  refine g_get (C := RX1) (T := TX1) (N := 17) B 0 0 15 (.int (mi 9)) in_X1 rfl q365 rfl (Nat.le_of_ble_eq_true rfl) (fun _ h9 => h9) rfl dX1_crossings_1 ?_
  exact g_iret B hr dX1_crossings_4 (Nat.le_of_ble_eq_true rfl) (Nat.le_of_ble_eq_true rfl) () rfl [0] rfl rfl

set_option maxHeartbeats 4000000 in
set_option maxRecDepth 100000 in
theorem m_X1_reset (l : Launch) (hst : l.stackTraces = false) (g : gG) (ad : Nat → Nat) (e0 : Nat) (mi : Nat → Int32) (lo su : Int64) : gMi l yX1_reset cX1_reset 2 .int 0 0 0 0 g [((ad 0), cM ad e0 mi lo su)] [.ref (ad 0)] (fun (r : Int32) (_ : Unit) => r = mi 6) (fun _ : Unit => [((ad 0), cM ad e0 (s_rst mi) 0 su)]) := by
  intro sz
  refine g_ent (by decide) hst [(0, .ref (ad 0))] (Nat.le_of_ble_eq_true rfl) rfl ?_
  intro p e s m below meth c B hr hnm hsz
  have B : gB p l s m ([.ref (ad 0)] : List Value).toArray meth c RX1 cX1_reset 2 g (va_A [((ad 0), cM ad e0 mi lo su)] sz) := B
  refine g_aload_n B 0 0 dX1_reset_0 rfl rfl ?_
  refine g_get (C := RX1) (T := TX1) (N := 17) B 0 0 11 (.int (mi 6)) in_X1 rfl q361 rfl (Nat.le_of_ble_eq_true rfl) (fun _ h9 => h9) rfl dX1_reset_1 ?_
  refine g_istore_n B 1 [(1, .int (mi 6)), (0, .ref (ad 0))] dX1_reset_4 rfl (Nat.le_of_ble_eq_true rfl) rfl ?_
  refine g_aload_n B 0 1 dX1_reset_5 rfl rfl ?_
  refine g_iconst (v := 0) B dX1_reset_6 kc_0 ?_
  refine g_put (C := RX1) (T := TX1) (N := 17) (ty := .int) (v := .int 0) B 0 0 11 [((ad 0), cM ad e0 (upd mi 6 0) lo su)] in_X1 tyX1 tyX1_ok nmX1 rfl q361 rfl (Nat.le_of_ble_eq_true rfl) (fun _ h9 => h9) rfl rfl rfl rfl (Nat.le_of_ble_eq_true rfl) rfl dX1_reset_7 ?_
  refine g_aload_n B 0 1 dX1_reset_10 rfl rfl ?_
  refine g_iconst (v := 0) B dX1_reset_11 kc_0 ?_
  refine g_put (C := RX1) (T := TX1) (N := 17) (ty := .int) (v := .int 0) B 0 0 12 [((ad 0), cM ad e0 (upd (upd mi 6 0) 7 0) lo su)] in_X1 tyX1 tyX1_ok nmX1 rfl q362 rfl (Nat.le_of_ble_eq_true rfl) (fun _ h9 => h9) rfl rfl rfl rfl (Nat.le_of_ble_eq_true rfl) rfl dX1_reset_12 ?_
  refine g_aload_n B 0 1 dX1_reset_15 rfl rfl ?_
  refine g_lconst (v := 0) B dX1_reset_16 kl_0 ?_
  refine g_put (C := RX1) (T := TX1) (N := 17) (ty := .long) (v := .long 0) B 0 0 13 [((ad 0), cM ad e0 (upd (upd mi 6 0) 7 0) 0 su)] in_X1 tyX1 tyX1_ok nmX1 rfl q363 rfl (Nat.le_of_ble_eq_true rfl) (fun _ h9 => h9) rfl rfl rfl rfl (Nat.le_of_ble_eq_true rfl) rfl dX1_reset_17 ?_
  refine g_aload_n B 0 1 dX1_reset_20 rfl rfl ?_
  refine g_iconst (v := 0) B dX1_reset_21 kc_0 ?_
  refine g_put (C := RX1) (T := TX1) (N := 17) (ty := .int) (v := .int 0) B 0 0 14 [((ad 0), cM ad e0 (upd (upd (upd mi 6 0) 7 0) 8 0) 0 su)] in_X1 tyX1 tyX1_ok nmX1 rfl q364 rfl (Nat.le_of_ble_eq_true rfl) (fun _ h9 => h9) rfl rfl rfl rfl (Nat.le_of_ble_eq_true rfl) rfl dX1_reset_22 ?_
  refine g_aload_n B 0 1 dX1_reset_25 rfl rfl ?_
  refine g_iconst (v := 0) B dX1_reset_26 kc_0 ?_
  refine g_put (C := RX1) (T := TX1) (N := 17) (ty := .int) (v := .int 0) B 0 0 15 [((ad 0), cM ad e0 (upd (upd (upd (upd mi 6 0) 7 0) 8 0) 9 0) 0 su)] in_X1 tyX1 tyX1_ok nmX1 rfl q365 rfl (Nat.le_of_ble_eq_true rfl) (fun _ h9 => h9) rfl rfl rfl rfl (Nat.le_of_ble_eq_true rfl) rfl dX1_reset_27 ?_
  refine g_iload_n B 1 0 dX1_reset_30 rfl rfl ?_
  exact g_iret B hr dX1_reset_31 (Nat.le_of_ble_eq_true rfl) (Nat.le_of_ble_eq_true rfl) () rfl [0] rfl rfl

set_option maxHeartbeats 4000000 in
set_option maxRecDepth 100000 in
theorem m_X1_loudness (l : Launch) (hst : l.stackTraces = false) (g : gG) (ad : Nat → Nat) (e0 : Nat) (mi : Nat → Int32) (lo su : Int64) : gMd l yX1_loudness cX1_loudness 1 0 0 0 0 g [((ad 0), cM ad e0 mi lo su)] [.ref (ad 0)] (fun (r : UInt64) (_ : Unit) => r = p_loud mi lo) (fun _ : Unit => [((ad 0), cM ad e0 mi lo su)]) := by
  intro sz
  refine g_ent (by decide) hst [(0, .ref (ad 0))] (Nat.le_of_ble_eq_true rfl) rfl ?_
  intro p e s m below meth c B hr hnm hsz
  have B : gB p l s m ([.ref (ad 0)] : List Value).toArray meth c RX1 cX1_loudness 1 g (va_A [((ad 0), cM ad e0 mi lo su)] sz) := B
  refine g_aload_n B 0 0 dX1_loudness_0 rfl rfl ?_
  refine g_get (C := RX1) (T := TX1) (N := 17) B 0 0 11 (.int (mi 6)) in_X1 rfl q361 rfl (Nat.le_of_ble_eq_true rfl) (fun _ h9 => h9) rfl dX1_loudness_1 ?_
  refine g_if_ne (tgt := 11) B dX1_loudness_4 (by decide) (fun c_1 => ?_) (fun c_1 => ?_)
  · skip
    refine g_aload_n B 0 0 dX1_loudness_11 rfl rfl ?_
    refine g_get (C := RX1) (T := TX1) (N := 17) B 0 0 13 (.long lo) in_X1 rfl q363 rfl (Nat.le_of_ble_eq_true rfl) (fun _ h9 => h9) rfl dX1_loudness_12 ?_
    refine g_l2d B dX1_loudness_15 ?_
    refine g_aload_n B 0 0 dX1_loudness_16 rfl rfl ?_
    refine g_get (C := RX1) (T := TX1) (N := 17) B 0 0 11 (.int (mi 6)) in_X1 rfl q361 rfl (Nat.le_of_ble_eq_true rfl) (fun _ h9 => h9) rfl dX1_loudness_17 ?_
    refine g_i2d B dX1_loudness_20 ?_
    refine g_ddiv B dX1_loudness_21 (vf_q c_1 _) ?_
    exact g_dret B hr dX1_loudness_22 (Nat.le_of_ble_eq_true rfl) (Nat.le_of_ble_eq_true rfl) () (by first | (simp only [p_loud, if_neg c_1]; done) | (simp only [p_loud, if_neg c_1]; rfl) | rfl) [0] rfl rfl
  · skip
    refine g_dconst0 B dX1_loudness_7 ?_
    refine g_goto (tgt := 22) B dX1_loudness_8 (by decide) ?_
    exact g_dret B hr dX1_loudness_22 (Nat.le_of_ble_eq_true rfl) (Nat.le_of_ble_eq_true rfl) () (by first | (simp only [p_loud, if_pos c_1]; done) | (simp only [p_loud, if_pos c_1]; rfl) | rfl) [0] rfl rfl

set_option maxHeartbeats 4000000 in
set_option maxRecDepth 100000 in
theorem m_X1_sounding (l : Launch) (hst : l.stackTraces = false) (g : gG) (ad ed : Nat → Nat) (mi : Nat → Int32) (lo su : Int64) (en : Nat → Int32) (vf : Nat → Nat → Int32) : gMi l yX1_sounding cX1_sounding 1 .int 4 86 0 0 g [((ad 0), cM ad (ed 0) mi lo su), ((ed 0), cE (ed 1) (ed 7) (ad 0) en), ((ed 1), cA (ed 2) al4), ((ed 2), .inl (g.2.2.1, 10, .inr (.inr (.inr (.inr (vq ed)))))), ((ed 3), cV (vf 0)), ((ed 4), cV (vf 1)), ((ed 5), cV (vf 2)), ((ed 6), cV (vf 3))] [.ref (ad 0)] (fun (r : Int32) (_ : Unit) => r = v_snd vf) (fun _ : Unit => [((ad 0), cM ad (ed 0) mi lo su), ((ed 0), cE (ed 1) (ed 7) (ad 0) en), ((ed 1), cA (ed 2) al4), ((ed 2), .inl (g.2.2.1, 10, .inr (.inr (.inr (.inr (vq ed)))))), ((ed 3), cV (vf 0)), ((ed 4), cV (vf 1)), ((ed 5), cV (vf 2)), ((ed 6), cV (vf 3))]) := by
  intro sz
  refine g_ent (by decide) hst [(0, .ref (ad 0))] (Nat.le_of_ble_eq_true rfl) rfl ?_
  intro p e s m below meth c B hr hnm hsz
  have B : gB p l s m ([.ref (ad 0)] : List Value).toArray meth c RX1 cX1_sounding 1 g (va_A [((ad 0), cM ad (ed 0) mi lo su), ((ed 0), cE (ed 1) (ed 7) (ad 0) en), ((ed 1), cA (ed 2) al4), ((ed 2), .inl (g.2.2.1, 10, .inr (.inr (.inr (.inr (vq ed)))))), ((ed 3), cV (vf 0)), ((ed 4), cV (vf 1)), ((ed 5), cV (vf 2)), ((ed 6), cV (vf 3))] sz) := B
  refine g_aload_n B 0 0 dX1_sounding_0 rfl rfl ?_
  refine g_get (C := RX1) (T := TX1) (N := 17) B 0 0 9 (.ref (ed 0)) in_X1 rfl q359 rfl (Nat.le_of_ble_eq_true rfl) (fun _ h9 => h9) rfl dX1_sounding_1 ?_
  refine g_cuV_i (C := RX2) (T := TX2) (N := 12) (As := []) B (m_X2_sounding l hst g ad ed en vf) 1 0 rfl rfl [1, 2, 3, 4, 5, 6, 7] [] (lw_V q406 q407 q408 q30 q409) nvX2_sounding rfl rfl rfl rfl (Nat.le_of_ble_eq_true rfl) dX1_sounding_4 ⟨Nat.le_of_ble_eq_true rfl, Nat.le_of_ble_eq_true rfl⟩ ⟨Nat.le_of_ble_eq_true rfl, Nat.le_of_ble_eq_true rfl⟩ (fun r_1 ur_1 hr_1 => ?_)
  have hr_1 : r_1 = (v_snd vf) := hr_1
  subst hr_1
  exact g_iret B hr dX1_sounding_7 (Nat.le_of_ble_eq_true rfl) (Nat.le_of_ble_eq_true rfl) () rfl [0, 1, 2, 3, 4, 5, 6, 7] rfl rfl

set_option maxHeartbeats 4000000 in
set_option maxRecDepth 100000 in
theorem m_X1_nextVoice (l : Launch) (hst : l.stackTraces = false) (g : gG) (ad ed : Nat → Nat) (mi : Nat → Int32) (lo su : Int64) (en : Nat → Int32) (vf : Nat → Nat → Int32) : gMi l yX1_nextVoice cX1_nextVoice 1 .int 4 86 0 0 g [((ad 0), cM ad (ed 0) mi lo su), ((ed 0), cE (ed 1) (ed 7) (ad 0) en), ((ed 1), cA (ed 2) al4), ((ed 2), .inl (g.2.2.1, 10, .inr (.inr (.inr (.inr (vq ed)))))), ((ed 3), cV (vf 0)), ((ed 4), cV (vf 1)), ((ed 5), cV (vf 2)), ((ed 6), cV (vf 3))] [.ref (ad 0)] (fun (r : Int32) (_ : Unit) => r = nI (v_nx vf)) (fun _ : Unit => [((ad 0), cM ad (ed 0) mi lo su), ((ed 0), cE (ed 1) (ed 7) (ad 0) en), ((ed 1), cA (ed 2) al4), ((ed 2), .inl (g.2.2.1, 10, .inr (.inr (.inr (.inr (vq ed)))))), ((ed 3), cV (vf 0)), ((ed 4), cV (vf 1)), ((ed 5), cV (vf 2)), ((ed 6), cV (vf 3))]) := by
  intro sz
  refine g_ent (by decide) hst [(0, .ref (ad 0))] (Nat.le_of_ble_eq_true rfl) rfl ?_
  intro p e s m below meth c B hr hnm hsz
  have B : gB p l s m ([.ref (ad 0)] : List Value).toArray meth c RX1 cX1_nextVoice 1 g (va_A [((ad 0), cM ad (ed 0) mi lo su), ((ed 0), cE (ed 1) (ed 7) (ad 0) en), ((ed 1), cA (ed 2) al4), ((ed 2), .inl (g.2.2.1, 10, .inr (.inr (.inr (.inr (vq ed)))))), ((ed 3), cV (vf 0)), ((ed 4), cV (vf 1)), ((ed 5), cV (vf 2)), ((ed 6), cV (vf 3))] sz) := B
  refine g_aload_n B 0 0 dX1_nextVoice_0 rfl rfl ?_
  refine g_get (C := RX1) (T := TX1) (N := 17) B 0 0 9 (.ref (ed 0)) in_X1 rfl q359 rfl (Nat.le_of_ble_eq_true rfl) (fun _ h9 => h9) rfl dX1_nextVoice_1 ?_
  refine g_cuV_i (C := RX2) (T := TX2) (N := 12) (As := []) B (m_X2_next l hst g ad ed en vf) 1 0 rfl rfl [1, 2, 3, 4, 5, 6, 7] [] (lw_V q564 q468 q469 q30 q470) nvX2_next rfl rfl rfl rfl (Nat.le_of_ble_eq_true rfl) dX1_nextVoice_4 ⟨Nat.le_of_ble_eq_true rfl, Nat.le_of_ble_eq_true rfl⟩ ⟨Nat.le_of_ble_eq_true rfl, Nat.le_of_ble_eq_true rfl⟩ (fun r_1 ur_1 hr_1 => ?_)
  have hr_1 : r_1 = (nI (v_nx vf)) := hr_1
  subst hr_1
  exact g_iret B hr dX1_nextVoice_7 (Nat.le_of_ble_eq_true rfl) (Nat.le_of_ble_eq_true rfl) () rfl [0, 1, 2, 3, 4, 5, 6, 7] rfl rfl
