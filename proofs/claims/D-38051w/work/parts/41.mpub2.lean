/-! contracts: the reference, tracks and asking -/
set_option maxRecDepth 100000
theorem it_4 : (4 : Int32).toInt = 4 := by decide
theorem it_5 : (5 : Int32).toInt = 5 := by decide
theorem it_6 : (6 : Int32).toInt = 6 := by decide
theorem it_7 : (7 : Int32).toInt = 7 := by decide
theorem it_8 : (8 : Int32).toInt = 8 := by decide
theorem nsX6_isStep : yX6_isStep.cls ≠ "java/lang/invoke/MethodHandle" ∧ yX6_isStep.cls ≠ "java/lang/invoke/VarHandle" ∧ (parseMethodDescriptor yX6_isStep.desc).map (fun d => d.parameters.length) = some 1 := by decide +kernel
theorem nvX6_ok : yX6_ok.cls = RX6 ∧ yX6_ok.cls ≠ "java/lang/invoke/MethodHandle" ∧ yX6_ok.cls ≠ "java/lang/invoke/VarHandle" ∧ (parseMethodDescriptor yX6_ok.desc).map (fun d => d.parameters.length) = some 1 := by decide +kernel
theorem nvX6_stepNow : yX6_stepNow.cls = RX6 ∧ yX6_stepNow.cls ≠ "java/lang/invoke/MethodHandle" ∧ yX6_stepNow.cls ≠ "java/lang/invoke/VarHandle" ∧ (parseMethodDescriptor yX6_stepNow.desc).map (fun d => d.parameters.length) = some 0 := by decide +kernel
theorem nvX6_voiceNow : yX6_voiceNow.cls = RX6 ∧ yX6_voiceNow.cls ≠ "java/lang/invoke/MethodHandle" ∧ yX6_voiceNow.cls ≠ "java/lang/invoke/VarHandle" ∧ (parseMethodDescriptor yX6_voiceNow.desc).map (fun d => d.parameters.length) = some 2 := by decide +kernel
set_option maxHeartbeats 4000000 in
set_option maxRecDepth 100000 in
theorem m_X6_write (l : Launch) (hst : l.stackTraces = false) (g : gG) (mo : Nat) (th : Nat → Int32) (dd : Nat → Nat) (di : Nat → Int32) (sm : Int64) (da : Nat → Nat → Int32) (t j pi fo ga : Int32) : gMi l yX6_write cX6_write 8 .int 2 42 0 0 g [(mo, cO (dd 0) th), ((dd 0), cD dd di sm), ((dd 16), .inl (g.2.1, 72, .inl (da 16)))] [.ref mo, .int t, .int j, .int pi, .int fo, .int ga] (fun (r : Int32) (_ : Unit) => r = (cn (d_write t j pi fo ga) (da 16 ((t.toNatClampNeg * 8 + j.toNatClampNeg) * 3)) 0)) (fun _ : Unit => [(mo, cO (dd 0) (fun _ => (d_write t j pi fo ga))), ((dd 0), cD dd di sm), ((dd 16), .inl (g.2.1, 72, .inl (cn (d_write t j pi fo ga) (d_wr (da 16) ((t.toNatClampNeg * 8 + j.toNatClampNeg) * 3) pi fo ga) (da 16))))]) := by
  intro sz
  refine g_ent (by decide) hst [(0, .ref mo), (1, .int t), (2, .int j), (3, .int pi), (4, .int fo), (5, .int ga)] (Nat.le_of_ble_eq_true rfl) rfl ?_
  intro p e s m below meth c B hr hnm hsz
  have B : gB p l s m ([.ref mo, .int t, .int j, .int pi, .int fo, .int ga] : List Value).toArray meth c RX6 cX6_write 8 g (va_A [(mo, cO (dd 0) th), ((dd 0), cD dd di sm), ((dd 16), .inl (g.2.1, 72, .inl (da 16)))] sz) := B
  refine g_aload_n B 0 0 dX6_write_0 rfl rfl ?_
  refine g_iconst (v := 0) B dX6_write_1 kc_0 ?_
  refine g_put (C := RX6) (T := TX6) (N := 2) (ty := .int) (v := .int 0) B 5 0 0 [(mo, cO (dd 0) (upd th 0 0)), ((dd 0), cD dd di sm), ((dd 16), .inl (g.2.1, 72, .inl (da 16)))] in_X6 tyX6 tyX6_ok nmX6 rfl q1048 rfl (Nat.le_of_ble_eq_true rfl) (fun _ h9 => h9) rfl rfl rfl rfl (Nat.le_of_ble_eq_true rfl) rfl dX6_write_2 ?_
  refine g_iload_n B 1 1 dX6_write_5 rfl rfl ?_
  refine g_iconst (v := 0) B dX6_write_6 kc_0 ?_
  refine g_iconst (v := 2) B dX6_write_7 kc_2 ?_
  refine g_cuS_i (As := [.int t, .int 0, .int 2]) B (m_X6_isIn l hst g t 0 2) [] [] (lw_S q1063 q1064 q38 q1065) nsX6_isIn rfl rfl rfl rfl (Nat.le_of_ble_eq_true rfl) dX6_write_8 ⟨Nat.le_of_ble_eq_true rfl, Nat.le_of_ble_eq_true rfl⟩ ⟨Nat.le_of_ble_eq_true rfl, Nat.le_of_ble_eq_true rfl⟩ (fun r_1 ur_1 hr_1 => ?_)
  have hr_1 : r_1 = in_z t 0 2 := hr_1
  refine g_if_eq (tgt := 21) B dX6_write_11 (by decide) (fun c_2 => ?_) (fun c_2 => ?_)
  · skip
    refine g_aload_n B 0 0 dX6_write_21 rfl rfl ?_
    refine g_iconst (v := 1) B dX6_write_22 kc_1 ?_
    refine g_cV_i (C := RX6) (T := TX6) (N := 2) (As := [.int 1]) B (m_X6_no l hst g mo (upd th 0 0) dd di sm 1) 5 0 rfl rfl [0] [] (lw_V q1066 q1068 qs15 q38 q1069) nvX6_no rfl rfl (fun _ => rfl) rfl rfl (Nat.le_of_ble_eq_true rfl) dX6_write_23 ⟨Nat.le_of_ble_eq_true rfl, Nat.le_of_ble_eq_true rfl⟩ ⟨Nat.le_of_ble_eq_true rfl, Nat.le_of_ble_eq_true rfl⟩ (fun r_3 ur_3 hr_3 => ?_)
    refine g_eqw (ws' := [(mo, cO (dd 0) (upd (upd th 0 0) 0 1)), ((dd 0), cD dd di sm), ((dd 16), .inl (g.2.1, 72, .inl (da 16)))]) rfl ?_
    have hr_3 : r_3 = 0 := hr_3
    subst hr_1
    subst hr_3
    exact g_iret B hr dX6_write_26 (Nat.le_of_ble_eq_true rfl) (Nat.le_of_ble_eq_true rfl) () (by first | (simp only [cn, d_write, d_wr, if_pos c_2]; done) | (simp only [cn, d_write, d_wr, if_pos c_2]; rfl) | rfl) [0, 1, 2] rfl (by first | (simp only [cn, d_write, d_wr, if_pos c_2]; rfl) | rfl)
  · skip
    refine g_iload_n B 2 2 dX6_write_14 rfl rfl ?_
    refine g_cuS_i (As := [.int j]) B (m_X6_isStep l hst g j) [] [] (lw_S q1161 q1162 q38 q1163) nsX6_isStep rfl rfl rfl rfl (Nat.le_of_ble_eq_true rfl) dX6_write_15 ⟨Nat.le_of_ble_eq_true rfl, Nat.le_of_ble_eq_true rfl⟩ ⟨Nat.le_of_ble_eq_true rfl, Nat.le_of_ble_eq_true rfl⟩ (fun r_4 ur_4 hr_4 => ?_)
    have hr_4 : r_4 = in_z j 0 7 := hr_4
    refine g_if_ne (tgt := 27) B dX6_write_18 (by decide) (fun c_5 => ?_) (fun c_5 => ?_)
    · skip
      refine g_iload_n B 3 3 dX6_write_27 rfl rfl ?_
      refine g_iconst (v := (-1)) B dX6_write_28 kc_m1 ?_
      refine g_bipush (v := 47) B dX6_write_29 kb_47 ?_
      refine g_cuS_i (As := [.int pi, .int (-1), .int 47]) B (m_X6_isIn l hst g pi (-1) 47) [] [] (lw_S q1063 q1064 q38 q1065) nsX6_isIn rfl rfl rfl rfl (Nat.le_of_ble_eq_true rfl) dX6_write_31 ⟨Nat.le_of_ble_eq_true rfl, Nat.le_of_ble_eq_true rfl⟩ ⟨Nat.le_of_ble_eq_true rfl, Nat.le_of_ble_eq_true rfl⟩ (fun r_6 ur_6 hr_6 => ?_)
      have hr_6 : r_6 = in_z pi (-1) 47 := hr_6
      refine g_if_eq (tgt := 65) B dX6_write_34 (by decide) (fun c_7 => ?_) (fun c_7 => ?_)
      · skip
        refine g_aload_n B 0 0 dX6_write_65 rfl rfl ?_
        refine g_iconst (v := 2) B dX6_write_66 kc_2 ?_
        refine g_cV_i (C := RX6) (T := TX6) (N := 2) (As := [.int 2]) B (m_X6_no l hst g mo (upd th 0 0) dd di sm 2) 5 0 rfl rfl [0] [] (lw_V q1066 q1068 qs15 q38 q1069) nvX6_no rfl rfl (fun _ => rfl) rfl rfl (Nat.le_of_ble_eq_true rfl) dX6_write_67 ⟨Nat.le_of_ble_eq_true rfl, Nat.le_of_ble_eq_true rfl⟩ ⟨Nat.le_of_ble_eq_true rfl, Nat.le_of_ble_eq_true rfl⟩ (fun r_8 ur_8 hr_8 => ?_)
        refine g_eqw (ws' := [(mo, cO (dd 0) (upd (upd th 0 0) 0 2)), ((dd 0), cD dd di sm), ((dd 16), .inl (g.2.1, 72, .inl (da 16)))]) rfl ?_
        have hr_8 : r_8 = 0 := hr_8
        subst hr_1
        subst hr_4
        subst hr_6
        subst hr_8
        exact g_iret B hr dX6_write_70 (Nat.le_of_ble_eq_true rfl) (Nat.le_of_ble_eq_true rfl) () (by first | (simp only [cn, d_write, d_wr, if_neg c_2, if_neg c_5, if_pos c_7]; done) | (simp only [cn, d_write, d_wr, if_neg c_2, if_neg c_5, if_pos c_7]; rfl) | rfl) [0, 1, 2] rfl (by first | (simp only [cn, d_write, d_wr, if_neg c_2, if_neg c_5, if_pos c_7]; rfl) | rfl)
      · skip
        refine g_iload_n B 3 3 dX6_write_37 rfl rfl ?_
        refine g_iconst (v := (-1)) B dX6_write_38 kc_m1 ?_
        refine g_icmp_eq (tgt := 71) B dX6_write_39 (by decide) (fun c_9 => ?_) (fun c_9 => ?_)
        · skip
          obtain ⟨nt, hnt, ent⟩ := iz_nat (N := 3) (by rw [← hr_1]; exact c_2) (by decide) (by decide)
          have tnt : t.toNatClampNeg = nt := by rw [ent]; exact nI_clamp (by omega)
          refine g_lvq (lv' := [(0, .ref mo), (1, .int (nI nt)), (2, .int j), (3, .int pi), (4, .int fo), (5, .int ga)]) (by rw [ent]) ?_
          obtain ⟨nj, hnj, enj⟩ := iz_nat (N := 8) (by rw [← hr_4]; exact c_5) (by decide) (by decide)
          have tnj : j.toNatClampNeg = nj := by rw [enj]; exact nI_clamp (by omega)
          refine g_lvq (lv' := [(0, .ref mo), (1, .int (nI nt)), (2, .int (nI nj)), (3, .int pi), (4, .int fo), (5, .int ga)]) (by rw [enj]) ?_
          refine g_iload_n B 1 1 dX6_write_71 rfl rfl ?_
          refine g_bipush (v := 8) B dX6_write_72 kb_8 ?_
          refine g_imul B dX6_write_74 ?_
          refine g_eqs (st' := [.int (nI (nt * 8))]) (congrArg (fun z => Value.int z :: _) (pk_mul nt 8)) ?_
          refine g_iload_n B 2 2 dX6_write_75 rfl rfl ?_
          refine g_iadd B dX6_write_76 ?_
          refine g_eqs (st' := [.int (nI ((nt * 8) + nj))]) (congrArg (fun z => Value.int z :: _) (nI_add (nt * 8) nj)) ?_
          refine g_iconst (v := 3) B dX6_write_77 kc_3 ?_
          refine g_imul B dX6_write_78 ?_
          refine g_eqs (st' := [.int (nI (((nt * 8) + nj) * 3))]) (congrArg (fun z => Value.int z :: _) (pk_mul ((nt * 8) + nj) 3)) ?_
          refine g_istore B [(6, .int (nI (((nt * 8) + nj) * 3))), (0, .ref mo), (1, .int (nI nt)), (2, .int (nI nj)), (3, .int pi), (4, .int fo), (5, .int ga)] dX6_write_79 (Nat.le_of_ble_eq_true rfl) rfl ?_
          refine g_aload_n B 0 1 dX6_write_81 rfl rfl ?_
          refine g_get (C := RX6) (T := TX6) (N := 2) B 5 0 1 (.ref (dd 0)) in_X6 rfl q1049 rfl (Nat.le_of_ble_eq_true rfl) (fun _ h9 => h9) rfl dX6_write_82 ?_
          refine g_get (C := RX7) (T := TX7) (N := 35) B 6 1 21 (.ref (dd 16)) in_X7 rfl q951 rfl (Nat.le_of_ble_eq_true rfl) (fun _ h9 => h9) rfl dX6_write_85 ?_
          refine g_iload B 0 dX6_write_88 rfl ?_
          refine g_iald B 2 (((nt * 8) + nj) * 3) rfl (nI_clamp (by omega)) (vp_in_nI (by omega) (by omega)) dX6_write_90 ?_
          refine g_topi (fun x_10 ex_10 => ?_)
          refine g_istore B [(7, .int x_10), (6, .int (nI (((nt * 8) + nj) * 3))), (0, .ref mo), (1, .int (nI nt)), (2, .int (nI nj)), (3, .int pi), (4, .int fo), (5, .int ga)] dX6_write_91 (Nat.le_of_ble_eq_true rfl) rfl ?_
          refine g_aload_n B 0 2 dX6_write_93 rfl rfl ?_
          refine g_get (C := RX6) (T := TX6) (N := 2) B 5 0 1 (.ref (dd 0)) in_X6 rfl q1049 rfl (Nat.le_of_ble_eq_true rfl) (fun _ h9 => h9) rfl dX6_write_94 ?_
          refine g_get (C := RX7) (T := TX7) (N := 35) B 6 1 21 (.ref (dd 16)) in_X7 rfl q951 rfl (Nat.le_of_ble_eq_true rfl) (fun _ h9 => h9) rfl dX6_write_97 ?_
          refine g_iload B 1 dX6_write_100 rfl ?_
          refine g_iload_n B 3 5 dX6_write_102 rfl rfl ?_
          refine g_iast B 2 (((nt * 8) + nj) * 3) [(mo, cO (dd 0) (upd th 0 0)), ((dd 0), cD dd di sm), ((dd 16), .inl (g.2.1, 72, .inl (upd (da 16) (((nt * 8) + nj) * 3) pi)))] rfl (nI_clamp (by omega)) (vp_in_nI (by omega) (by omega)) rfl dX6_write_103 ?_
          refine g_aload_n B 0 2 dX6_write_104 rfl rfl ?_
          refine g_get (C := RX6) (T := TX6) (N := 2) B 5 0 1 (.ref (dd 0)) in_X6 rfl q1049 rfl (Nat.le_of_ble_eq_true rfl) (fun _ h9 => h9) rfl dX6_write_105 ?_
          refine g_get (C := RX7) (T := TX7) (N := 35) B 6 1 21 (.ref (dd 16)) in_X7 rfl q951 rfl (Nat.le_of_ble_eq_true rfl) (fun _ h9 => h9) rfl dX6_write_108 ?_
          refine g_iload B 1 dX6_write_111 rfl ?_
          refine g_iconst (v := 1) B dX6_write_113 kc_1 ?_
          refine g_iadd B dX6_write_114 ?_
          refine g_eqs (st' := [.int (nI ((((nt * 8) + nj) * 3) + 1)), .ref (dd 16)]) (congrArg (fun z => Value.int z :: _) (nI_add (((nt * 8) + nj) * 3) 1)) ?_
          refine g_iload_n B 3 5 dX6_write_115 rfl rfl ?_
          refine g_iconst (v := (-1)) B dX6_write_116 kc_m1 ?_
          refine g_icmp_ne_F (tgt := 124) B dX6_write_117 (by decide) c_9 ?_
          refine g_iconst (v := 0) B dX6_write_120 kc_0 ?_
          refine g_goto (tgt := 126) B dX6_write_121 (by decide) ?_
          refine g_iast B 2 ((((nt * 8) + nj) * 3) + 1) [(mo, cO (dd 0) (upd th 0 0)), ((dd 0), cD dd di sm), ((dd 16), .inl (g.2.1, 72, .inl (upd (upd (da 16) (((nt * 8) + nj) * 3) pi) ((((nt * 8) + nj) * 3) + 1) 0)))] rfl (nI_clamp (by omega)) (vp_in_nI (by omega) (by omega)) rfl dX6_write_126 ?_
          refine g_aload_n B 0 2 dX6_write_127 rfl rfl ?_
          refine g_get (C := RX6) (T := TX6) (N := 2) B 5 0 1 (.ref (dd 0)) in_X6 rfl q1049 rfl (Nat.le_of_ble_eq_true rfl) (fun _ h9 => h9) rfl dX6_write_128 ?_
          refine g_get (C := RX7) (T := TX7) (N := 35) B 6 1 21 (.ref (dd 16)) in_X7 rfl q951 rfl (Nat.le_of_ble_eq_true rfl) (fun _ h9 => h9) rfl dX6_write_131 ?_
          refine g_iload B 1 dX6_write_134 rfl ?_
          refine g_iconst (v := 2) B dX6_write_136 kc_2 ?_
          refine g_iadd B dX6_write_137 ?_
          refine g_eqs (st' := [.int (nI ((((nt * 8) + nj) * 3) + 2)), .ref (dd 16)]) (congrArg (fun z => Value.int z :: _) (nI_add (((nt * 8) + nj) * 3) 2)) ?_
          refine g_iload_n B 3 5 dX6_write_138 rfl rfl ?_
          refine g_iconst (v := (-1)) B dX6_write_139 kc_m1 ?_
          refine g_icmp_ne_F (tgt := 147) B dX6_write_140 (by decide) c_9 ?_
          refine g_iconst (v := 0) B dX6_write_143 kc_0 ?_
          refine g_goto (tgt := 149) B dX6_write_144 (by decide) ?_
          refine g_iast B 2 ((((nt * 8) + nj) * 3) + 2) [(mo, cO (dd 0) (upd th 0 0)), ((dd 0), cD dd di sm), ((dd 16), .inl (g.2.1, 72, .inl (upd (upd (upd (da 16) (((nt * 8) + nj) * 3) pi) ((((nt * 8) + nj) * 3) + 1) 0) ((((nt * 8) + nj) * 3) + 2) 0)))] rfl (nI_clamp (by omega)) (vp_in_nI (by omega) (by omega)) rfl dX6_write_149 ?_
          refine g_iload B 0 dX6_write_150 rfl ?_
          subst hr_1
          subst hr_4
          subst hr_6
          subst ex_10
          exact g_iret B hr dX6_write_152 (Nat.le_of_ble_eq_true rfl) (Nat.le_of_ble_eq_true rfl) () (by first | (simp only [cn, d_write, d_wr, if_neg c_2, if_neg c_5, if_neg c_7, if_pos c_9, tnt, tnj]; done) | (simp only [cn, d_write, d_wr, if_neg c_2, if_neg c_5, if_neg c_7, if_pos c_9, tnt, tnj]; rfl) | rfl) [0, 1, 2] rfl (by first | (simp only [cn, d_write, d_wr, if_neg c_2, if_neg c_5, if_neg c_7, if_pos c_9, tnt, tnj]; rfl) | rfl)
        · skip
          refine g_iload B 4 dX6_write_42 rfl ?_
          refine g_iconst (v := 1) B dX6_write_44 kc_1 ?_
          refine g_bipush (v := 127) B dX6_write_45 kb_127 ?_
          refine g_cuS_i (As := [.int fo, .int 1, .int 127]) B (m_X6_isIn l hst g fo 1 127) [] [] (lw_S q1063 q1064 q38 q1065) nsX6_isIn rfl rfl rfl rfl (Nat.le_of_ble_eq_true rfl) dX6_write_47 ⟨Nat.le_of_ble_eq_true rfl, Nat.le_of_ble_eq_true rfl⟩ ⟨Nat.le_of_ble_eq_true rfl, Nat.le_of_ble_eq_true rfl⟩ (fun r_11 ur_11 hr_11 => ?_)
          have hr_11 : r_11 = in_z fo 1 127 := hr_11
          refine g_if_eq (tgt := 65) B dX6_write_50 (by decide) (fun c_12 => ?_) (fun c_12 => ?_)
          · skip
            refine g_aload_n B 0 0 dX6_write_65 rfl rfl ?_
            refine g_iconst (v := 2) B dX6_write_66 kc_2 ?_
            refine g_cV_i (C := RX6) (T := TX6) (N := 2) (As := [.int 2]) B (m_X6_no l hst g mo (upd th 0 0) dd di sm 2) 5 0 rfl rfl [0] [] (lw_V q1066 q1068 qs15 q38 q1069) nvX6_no rfl rfl (fun _ => rfl) rfl rfl (Nat.le_of_ble_eq_true rfl) dX6_write_67 ⟨Nat.le_of_ble_eq_true rfl, Nat.le_of_ble_eq_true rfl⟩ ⟨Nat.le_of_ble_eq_true rfl, Nat.le_of_ble_eq_true rfl⟩ (fun r_13 ur_13 hr_13 => ?_)
            refine g_eqw (ws' := [(mo, cO (dd 0) (upd (upd th 0 0) 0 2)), ((dd 0), cD dd di sm), ((dd 16), .inl (g.2.1, 72, .inl (da 16)))]) rfl ?_
            have hr_13 : r_13 = 0 := hr_13
            subst hr_1
            subst hr_4
            subst hr_6
            subst hr_11
            subst hr_13
            exact g_iret B hr dX6_write_70 (Nat.le_of_ble_eq_true rfl) (Nat.le_of_ble_eq_true rfl) () (by first | (simp only [cn, d_write, d_wr, if_neg c_2, if_neg c_5, if_neg c_7, if_neg c_9, if_pos c_12]; done) | (simp only [cn, d_write, d_wr, if_neg c_2, if_neg c_5, if_neg c_7, if_neg c_9, if_pos c_12]; rfl) | rfl) [0, 1, 2] rfl (by first | (simp only [cn, d_write, d_wr, if_neg c_2, if_neg c_5, if_neg c_7, if_neg c_9, if_pos c_12]; rfl) | rfl)
          · skip
            refine g_iload B 5 dX6_write_53 rfl ?_
            refine g_iconst (v := 1) B dX6_write_55 kc_1 ?_
            refine g_sipush (v := 200) B dX6_write_56 ks_200 ?_
            refine g_cuS_i (As := [.int ga, .int 1, .int 200]) B (m_X6_isIn l hst g ga 1 200) [] [] (lw_S q1063 q1064 q38 q1065) nsX6_isIn rfl rfl rfl rfl (Nat.le_of_ble_eq_true rfl) dX6_write_59 ⟨Nat.le_of_ble_eq_true rfl, Nat.le_of_ble_eq_true rfl⟩ ⟨Nat.le_of_ble_eq_true rfl, Nat.le_of_ble_eq_true rfl⟩ (fun r_14 ur_14 hr_14 => ?_)
            have hr_14 : r_14 = in_z ga 1 200 := hr_14
            refine g_if_ne (tgt := 71) B dX6_write_62 (by decide) (fun c_15 => ?_) (fun c_15 => ?_)
            · skip
              obtain ⟨nt, hnt, ent⟩ := iz_nat (N := 3) (by rw [← hr_1]; exact c_2) (by decide) (by decide)
              have tnt : t.toNatClampNeg = nt := by rw [ent]; exact nI_clamp (by omega)
              refine g_lvq (lv' := [(0, .ref mo), (1, .int (nI nt)), (2, .int j), (3, .int pi), (4, .int fo), (5, .int ga)]) (by rw [ent]) ?_
              obtain ⟨nj, hnj, enj⟩ := iz_nat (N := 8) (by rw [← hr_4]; exact c_5) (by decide) (by decide)
              have tnj : j.toNatClampNeg = nj := by rw [enj]; exact nI_clamp (by omega)
              refine g_lvq (lv' := [(0, .ref mo), (1, .int (nI nt)), (2, .int (nI nj)), (3, .int pi), (4, .int fo), (5, .int ga)]) (by rw [enj]) ?_
              refine g_iload_n B 1 1 dX6_write_71 rfl rfl ?_
              refine g_bipush (v := 8) B dX6_write_72 kb_8 ?_
              refine g_imul B dX6_write_74 ?_
              refine g_eqs (st' := [.int (nI (nt * 8))]) (congrArg (fun z => Value.int z :: _) (pk_mul nt 8)) ?_
              refine g_iload_n B 2 2 dX6_write_75 rfl rfl ?_
              refine g_iadd B dX6_write_76 ?_
              refine g_eqs (st' := [.int (nI ((nt * 8) + nj))]) (congrArg (fun z => Value.int z :: _) (nI_add (nt * 8) nj)) ?_
              refine g_iconst (v := 3) B dX6_write_77 kc_3 ?_
              refine g_imul B dX6_write_78 ?_
              refine g_eqs (st' := [.int (nI (((nt * 8) + nj) * 3))]) (congrArg (fun z => Value.int z :: _) (pk_mul ((nt * 8) + nj) 3)) ?_
              refine g_istore B [(6, .int (nI (((nt * 8) + nj) * 3))), (0, .ref mo), (1, .int (nI nt)), (2, .int (nI nj)), (3, .int pi), (4, .int fo), (5, .int ga)] dX6_write_79 (Nat.le_of_ble_eq_true rfl) rfl ?_
              refine g_aload_n B 0 1 dX6_write_81 rfl rfl ?_
              refine g_get (C := RX6) (T := TX6) (N := 2) B 5 0 1 (.ref (dd 0)) in_X6 rfl q1049 rfl (Nat.le_of_ble_eq_true rfl) (fun _ h9 => h9) rfl dX6_write_82 ?_
              refine g_get (C := RX7) (T := TX7) (N := 35) B 6 1 21 (.ref (dd 16)) in_X7 rfl q951 rfl (Nat.le_of_ble_eq_true rfl) (fun _ h9 => h9) rfl dX6_write_85 ?_
              refine g_iload B 0 dX6_write_88 rfl ?_
              refine g_iald B 2 (((nt * 8) + nj) * 3) rfl (nI_clamp (by omega)) (vp_in_nI (by omega) (by omega)) dX6_write_90 ?_
              refine g_topi (fun x_16 ex_16 => ?_)
              refine g_istore B [(7, .int x_16), (6, .int (nI (((nt * 8) + nj) * 3))), (0, .ref mo), (1, .int (nI nt)), (2, .int (nI nj)), (3, .int pi), (4, .int fo), (5, .int ga)] dX6_write_91 (Nat.le_of_ble_eq_true rfl) rfl ?_
              refine g_aload_n B 0 2 dX6_write_93 rfl rfl ?_
              refine g_get (C := RX6) (T := TX6) (N := 2) B 5 0 1 (.ref (dd 0)) in_X6 rfl q1049 rfl (Nat.le_of_ble_eq_true rfl) (fun _ h9 => h9) rfl dX6_write_94 ?_
              refine g_get (C := RX7) (T := TX7) (N := 35) B 6 1 21 (.ref (dd 16)) in_X7 rfl q951 rfl (Nat.le_of_ble_eq_true rfl) (fun _ h9 => h9) rfl dX6_write_97 ?_
              refine g_iload B 1 dX6_write_100 rfl ?_
              refine g_iload_n B 3 5 dX6_write_102 rfl rfl ?_
              refine g_iast B 2 (((nt * 8) + nj) * 3) [(mo, cO (dd 0) (upd th 0 0)), ((dd 0), cD dd di sm), ((dd 16), .inl (g.2.1, 72, .inl (upd (da 16) (((nt * 8) + nj) * 3) pi)))] rfl (nI_clamp (by omega)) (vp_in_nI (by omega) (by omega)) rfl dX6_write_103 ?_
              refine g_aload_n B 0 2 dX6_write_104 rfl rfl ?_
              refine g_get (C := RX6) (T := TX6) (N := 2) B 5 0 1 (.ref (dd 0)) in_X6 rfl q1049 rfl (Nat.le_of_ble_eq_true rfl) (fun _ h9 => h9) rfl dX6_write_105 ?_
              refine g_get (C := RX7) (T := TX7) (N := 35) B 6 1 21 (.ref (dd 16)) in_X7 rfl q951 rfl (Nat.le_of_ble_eq_true rfl) (fun _ h9 => h9) rfl dX6_write_108 ?_
              refine g_iload B 1 dX6_write_111 rfl ?_
              refine g_iconst (v := 1) B dX6_write_113 kc_1 ?_
              refine g_iadd B dX6_write_114 ?_
              refine g_eqs (st' := [.int (nI ((((nt * 8) + nj) * 3) + 1)), .ref (dd 16)]) (congrArg (fun z => Value.int z :: _) (nI_add (((nt * 8) + nj) * 3) 1)) ?_
              refine g_iload_n B 3 5 dX6_write_115 rfl rfl ?_
              refine g_iconst (v := (-1)) B dX6_write_116 kc_m1 ?_
              refine g_icmp_ne_T (tgt := 124) B dX6_write_117 (by decide) c_9 ?_
              refine g_iload B 6 dX6_write_124 rfl ?_
              refine g_iast B 2 ((((nt * 8) + nj) * 3) + 1) [(mo, cO (dd 0) (upd th 0 0)), ((dd 0), cD dd di sm), ((dd 16), .inl (g.2.1, 72, .inl (upd (upd (da 16) (((nt * 8) + nj) * 3) pi) ((((nt * 8) + nj) * 3) + 1) fo)))] rfl (nI_clamp (by omega)) (vp_in_nI (by omega) (by omega)) rfl dX6_write_126 ?_
              refine g_aload_n B 0 2 dX6_write_127 rfl rfl ?_
              refine g_get (C := RX6) (T := TX6) (N := 2) B 5 0 1 (.ref (dd 0)) in_X6 rfl q1049 rfl (Nat.le_of_ble_eq_true rfl) (fun _ h9 => h9) rfl dX6_write_128 ?_
              refine g_get (C := RX7) (T := TX7) (N := 35) B 6 1 21 (.ref (dd 16)) in_X7 rfl q951 rfl (Nat.le_of_ble_eq_true rfl) (fun _ h9 => h9) rfl dX6_write_131 ?_
              refine g_iload B 1 dX6_write_134 rfl ?_
              refine g_iconst (v := 2) B dX6_write_136 kc_2 ?_
              refine g_iadd B dX6_write_137 ?_
              refine g_eqs (st' := [.int (nI ((((nt * 8) + nj) * 3) + 2)), .ref (dd 16)]) (congrArg (fun z => Value.int z :: _) (nI_add (((nt * 8) + nj) * 3) 2)) ?_
              refine g_iload_n B 3 5 dX6_write_138 rfl rfl ?_
              refine g_iconst (v := (-1)) B dX6_write_139 kc_m1 ?_
              refine g_icmp_ne_T (tgt := 147) B dX6_write_140 (by decide) c_9 ?_
              refine g_iload B 7 dX6_write_147 rfl ?_
              refine g_iast B 2 ((((nt * 8) + nj) * 3) + 2) [(mo, cO (dd 0) (upd th 0 0)), ((dd 0), cD dd di sm), ((dd 16), .inl (g.2.1, 72, .inl (upd (upd (upd (da 16) (((nt * 8) + nj) * 3) pi) ((((nt * 8) + nj) * 3) + 1) fo) ((((nt * 8) + nj) * 3) + 2) ga)))] rfl (nI_clamp (by omega)) (vp_in_nI (by omega) (by omega)) rfl dX6_write_149 ?_
              refine g_iload B 0 dX6_write_150 rfl ?_
              subst hr_1
              subst hr_4
              subst hr_6
              subst hr_11
              subst hr_14
              subst ex_16
              exact g_iret B hr dX6_write_152 (Nat.le_of_ble_eq_true rfl) (Nat.le_of_ble_eq_true rfl) () (by first | (simp only [cn, d_write, d_wr, if_neg c_2, if_neg c_5, if_neg c_7, if_neg c_9, if_neg c_12, if_neg c_15, tnt, tnj]; done) | (simp only [cn, d_write, d_wr, if_neg c_2, if_neg c_5, if_neg c_7, if_neg c_9, if_neg c_12, if_neg c_15, tnt, tnj]; rfl) | rfl) [0, 1, 2] rfl (by first | (simp only [cn, d_write, d_wr, if_neg c_2, if_neg c_5, if_neg c_7, if_neg c_9, if_neg c_12, if_neg c_15, tnt, tnj]; rfl) | rfl)
            · skip
              refine g_aload_n B 0 0 dX6_write_65 rfl rfl ?_
              refine g_iconst (v := 2) B dX6_write_66 kc_2 ?_
              refine g_cV_i (C := RX6) (T := TX6) (N := 2) (As := [.int 2]) B (m_X6_no l hst g mo (upd th 0 0) dd di sm 2) 5 0 rfl rfl [0] [] (lw_V q1066 q1068 qs15 q38 q1069) nvX6_no rfl rfl (fun _ => rfl) rfl rfl (Nat.le_of_ble_eq_true rfl) dX6_write_67 ⟨Nat.le_of_ble_eq_true rfl, Nat.le_of_ble_eq_true rfl⟩ ⟨Nat.le_of_ble_eq_true rfl, Nat.le_of_ble_eq_true rfl⟩ (fun r_17 ur_17 hr_17 => ?_)
              refine g_eqw (ws' := [(mo, cO (dd 0) (upd (upd th 0 0) 0 2)), ((dd 0), cD dd di sm), ((dd 16), .inl (g.2.1, 72, .inl (da 16)))]) rfl ?_
              have hr_17 : r_17 = 0 := hr_17
              subst hr_1
              subst hr_4
              subst hr_6
              subst hr_11
              subst hr_14
              subst hr_17
              exact g_iret B hr dX6_write_70 (Nat.le_of_ble_eq_true rfl) (Nat.le_of_ble_eq_true rfl) () (by first | (simp only [cn, d_write, d_wr, if_neg c_2, if_neg c_5, if_neg c_7, if_neg c_9, if_neg c_12, if_pos c_15]; done) | (simp only [cn, d_write, d_wr, if_neg c_2, if_neg c_5, if_neg c_7, if_neg c_9, if_neg c_12, if_pos c_15]; rfl) | rfl) [0, 1, 2] rfl (by first | (simp only [cn, d_write, d_wr, if_neg c_2, if_neg c_5, if_neg c_7, if_neg c_9, if_neg c_12, if_pos c_15]; rfl) | rfl)
    · skip
      refine g_aload_n B 0 0 dX6_write_21 rfl rfl ?_
      refine g_iconst (v := 1) B dX6_write_22 kc_1 ?_
      refine g_cV_i (C := RX6) (T := TX6) (N := 2) (As := [.int 1]) B (m_X6_no l hst g mo (upd th 0 0) dd di sm 1) 5 0 rfl rfl [0] [] (lw_V q1066 q1068 qs15 q38 q1069) nvX6_no rfl rfl (fun _ => rfl) rfl rfl (Nat.le_of_ble_eq_true rfl) dX6_write_23 ⟨Nat.le_of_ble_eq_true rfl, Nat.le_of_ble_eq_true rfl⟩ ⟨Nat.le_of_ble_eq_true rfl, Nat.le_of_ble_eq_true rfl⟩ (fun r_18 ur_18 hr_18 => ?_)
      refine g_eqw (ws' := [(mo, cO (dd 0) (upd (upd th 0 0) 0 1)), ((dd 0), cD dd di sm), ((dd 16), .inl (g.2.1, 72, .inl (da 16)))]) rfl ?_
      have hr_18 : r_18 = 0 := hr_18
      subst hr_1
      subst hr_4
      subst hr_18
      exact g_iret B hr dX6_write_26 (Nat.le_of_ble_eq_true rfl) (Nat.le_of_ble_eq_true rfl) () (by first | (simp only [cn, d_write, d_wr, if_neg c_2, if_pos c_5]; done) | (simp only [cn, d_write, d_wr, if_neg c_2, if_pos c_5]; rfl) | rfl) [0, 1, 2] rfl (by first | (simp only [cn, d_write, d_wr, if_neg c_2, if_pos c_5]; rfl) | rfl)

set_option maxHeartbeats 4000000 in
set_option maxRecDepth 100000 in
theorem m_X6_setTrack (l : Launch) (hst : l.stackTraces = false) (g : gG) (mo : Nat) (th : Nat → Int32) (dd : Nat → Nat) (di : Nat → Int32) (sm : Int64) (da : Nat → Nat → Int32) (t i : Int32) : gMi l yX6_setTrack cX6_setTrack 4 .int 2 42 0 0 g [(mo, cO (dd 0) th), ((dd 0), cD dd di sm), ((dd 15), .inl (g.2.1, 3, .inl (da 15)))] [.ref mo, .int t, .int i] (fun (r : Int32) (_ : Unit) => r = (cn (d_track t i) (da 15 t.toNatClampNeg) 0)) (fun _ : Unit => [(mo, cO (dd 0) (fun _ => (d_track t i))), ((dd 0), cD dd di sm), ((dd 15), .inl (g.2.1, 3, .inl (cn (d_track t i) (upd (da 15) t.toNatClampNeg i) (da 15))))]) := by
  intro sz
  refine g_ent (by decide) hst [(0, .ref mo), (1, .int t), (2, .int i)] (Nat.le_of_ble_eq_true rfl) rfl ?_
  intro p e s m below meth c B hr hnm hsz
  have B : gB p l s m ([.ref mo, .int t, .int i] : List Value).toArray meth c RX6 cX6_setTrack 4 g (va_A [(mo, cO (dd 0) th), ((dd 0), cD dd di sm), ((dd 15), .inl (g.2.1, 3, .inl (da 15)))] sz) := B
  refine g_aload_n B 0 0 dX6_setTrack_0 rfl rfl ?_
  refine g_iconst (v := 0) B dX6_setTrack_1 kc_0 ?_
  refine g_put (C := RX6) (T := TX6) (N := 2) (ty := .int) (v := .int 0) B 5 0 0 [(mo, cO (dd 0) (upd th 0 0)), ((dd 0), cD dd di sm), ((dd 15), .inl (g.2.1, 3, .inl (da 15)))] in_X6 tyX6 tyX6_ok nmX6 rfl q1048 rfl (Nat.le_of_ble_eq_true rfl) (fun _ h9 => h9) rfl rfl rfl rfl (Nat.le_of_ble_eq_true rfl) rfl dX6_setTrack_2 ?_
  refine g_iload_n B 1 1 dX6_setTrack_5 rfl rfl ?_
  refine g_iconst (v := 0) B dX6_setTrack_6 kc_0 ?_
  refine g_iconst (v := 2) B dX6_setTrack_7 kc_2 ?_
  refine g_cuS_i (As := [.int t, .int 0, .int 2]) B (m_X6_isIn l hst g t 0 2) [] [] (lw_S q1063 q1064 q38 q1065) nsX6_isIn rfl rfl rfl rfl (Nat.le_of_ble_eq_true rfl) dX6_setTrack_8 ⟨Nat.le_of_ble_eq_true rfl, Nat.le_of_ble_eq_true rfl⟩ ⟨Nat.le_of_ble_eq_true rfl, Nat.le_of_ble_eq_true rfl⟩ (fun r_1 ur_1 hr_1 => ?_)
  have hr_1 : r_1 = in_z t 0 2 := hr_1
  refine g_if_eq (tgt := 21) B dX6_setTrack_11 (by decide) (fun c_2 => ?_) (fun c_2 => ?_)
  · skip
    refine g_aload_n B 0 0 dX6_setTrack_21 rfl rfl ?_
    refine g_iconst (v := 1) B dX6_setTrack_22 kc_1 ?_
    refine g_cV_i (C := RX6) (T := TX6) (N := 2) (As := [.int 1]) B (m_X6_no l hst g mo (upd th 0 0) dd di sm 1) 5 0 rfl rfl [0] [] (lw_V q1066 q1068 qs15 q38 q1069) nvX6_no rfl rfl (fun _ => rfl) rfl rfl (Nat.le_of_ble_eq_true rfl) dX6_setTrack_23 ⟨Nat.le_of_ble_eq_true rfl, Nat.le_of_ble_eq_true rfl⟩ ⟨Nat.le_of_ble_eq_true rfl, Nat.le_of_ble_eq_true rfl⟩ (fun r_3 ur_3 hr_3 => ?_)
    refine g_eqw (ws' := [(mo, cO (dd 0) (upd (upd th 0 0) 0 1)), ((dd 0), cD dd di sm), ((dd 15), .inl (g.2.1, 3, .inl (da 15)))]) rfl ?_
    have hr_3 : r_3 = 0 := hr_3
    subst hr_1
    subst hr_3
    exact g_iret B hr dX6_setTrack_26 (Nat.le_of_ble_eq_true rfl) (Nat.le_of_ble_eq_true rfl) () (by first | (simp only [cn, d_track, if_pos c_2]; done) | (simp only [cn, d_track, if_pos c_2]; rfl) | rfl) [0, 1, 2] rfl (by first | (simp only [cn, d_track, if_pos c_2]; rfl) | rfl)
  · skip
    refine g_iload_n B 2 2 dX6_setTrack_14 rfl rfl ?_
    refine g_cuS_i (As := [.int i]) B (m_X6_isInstrument l hst g i) [] [] (lw_S q1097 q1098 q38 q1099) nsX6_isInstrument rfl rfl rfl rfl (Nat.le_of_ble_eq_true rfl) dX6_setTrack_15 ⟨Nat.le_of_ble_eq_true rfl, Nat.le_of_ble_eq_true rfl⟩ ⟨Nat.le_of_ble_eq_true rfl, Nat.le_of_ble_eq_true rfl⟩ (fun r_4 ur_4 hr_4 => ?_)
    have hr_4 : r_4 = in_z i 0 3 := hr_4
    refine g_if_ne (tgt := 27) B dX6_setTrack_18 (by decide) (fun c_5 => ?_) (fun c_5 => ?_)
    · skip
      refine g_aload_n B 0 0 dX6_setTrack_27 rfl rfl ?_
      refine g_get (C := RX6) (T := TX6) (N := 2) B 5 0 1 (.ref (dd 0)) in_X6 rfl q1049 rfl (Nat.le_of_ble_eq_true rfl) (fun _ h9 => h9) rfl dX6_setTrack_28 ?_
      refine g_get (C := RX7) (T := TX7) (N := 35) B 6 1 20 (.ref (dd 15)) in_X7 rfl q949 rfl (Nat.le_of_ble_eq_true rfl) (fun _ h9 => h9) rfl dX6_setTrack_31 ?_
      refine g_iload_n B 1 1 dX6_setTrack_34 rfl rfl ?_
      refine g_iald B 2 t.toNatClampNeg rfl rfl (iz_in (by rw [← hr_1]; exact c_2) (by decide)) dX6_setTrack_35 ?_
      refine g_topi (fun x_6 ex_6 => ?_)
      refine g_istore_n B 3 [(3, .int x_6), (0, .ref mo), (1, .int t), (2, .int i)] dX6_setTrack_36 rfl (Nat.le_of_ble_eq_true rfl) rfl ?_
      refine g_aload_n B 0 1 dX6_setTrack_37 rfl rfl ?_
      refine g_get (C := RX6) (T := TX6) (N := 2) B 5 0 1 (.ref (dd 0)) in_X6 rfl q1049 rfl (Nat.le_of_ble_eq_true rfl) (fun _ h9 => h9) rfl dX6_setTrack_38 ?_
      refine g_get (C := RX7) (T := TX7) (N := 35) B 6 1 20 (.ref (dd 15)) in_X7 rfl q949 rfl (Nat.le_of_ble_eq_true rfl) (fun _ h9 => h9) rfl dX6_setTrack_41 ?_
      refine g_iload_n B 1 2 dX6_setTrack_44 rfl rfl ?_
      refine g_iload_n B 2 3 dX6_setTrack_45 rfl rfl ?_
      refine g_iast B 2 t.toNatClampNeg [(mo, cO (dd 0) (upd th 0 0)), ((dd 0), cD dd di sm), ((dd 15), .inl (g.2.1, 3, .inl (upd (da 15) t.toNatClampNeg i)))] rfl rfl (iz_in (by rw [← hr_1]; exact c_2) (by decide)) rfl dX6_setTrack_46 ?_
      refine g_iload_n B 3 0 dX6_setTrack_47 rfl rfl ?_
      subst hr_1
      subst hr_4
      subst ex_6
      exact g_iret B hr dX6_setTrack_48 (Nat.le_of_ble_eq_true rfl) (Nat.le_of_ble_eq_true rfl) () (by first | (simp only [cn, d_track, if_neg c_2, if_neg c_5]; done) | (simp only [cn, d_track, if_neg c_2, if_neg c_5]; rfl) | rfl) [0, 1, 2] rfl (by first | (simp only [cn, d_track, if_neg c_2, if_neg c_5]; rfl) | rfl)
    · skip
      refine g_aload_n B 0 0 dX6_setTrack_21 rfl rfl ?_
      refine g_iconst (v := 1) B dX6_setTrack_22 kc_1 ?_
      refine g_cV_i (C := RX6) (T := TX6) (N := 2) (As := [.int 1]) B (m_X6_no l hst g mo (upd th 0 0) dd di sm 1) 5 0 rfl rfl [0] [] (lw_V q1066 q1068 qs15 q38 q1069) nvX6_no rfl rfl (fun _ => rfl) rfl rfl (Nat.le_of_ble_eq_true rfl) dX6_setTrack_23 ⟨Nat.le_of_ble_eq_true rfl, Nat.le_of_ble_eq_true rfl⟩ ⟨Nat.le_of_ble_eq_true rfl, Nat.le_of_ble_eq_true rfl⟩ (fun r_7 ur_7 hr_7 => ?_)
      refine g_eqw (ws' := [(mo, cO (dd 0) (upd (upd th 0 0) 0 1)), ((dd 0), cD dd di sm), ((dd 15), .inl (g.2.1, 3, .inl (da 15)))]) rfl ?_
      have hr_7 : r_7 = 0 := hr_7
      subst hr_1
      subst hr_4
      subst hr_7
      exact g_iret B hr dX6_setTrack_26 (Nat.le_of_ble_eq_true rfl) (Nat.le_of_ble_eq_true rfl) () (by first | (simp only [cn, d_track, if_neg c_2, if_pos c_5]; done) | (simp only [cn, d_track, if_neg c_2, if_pos c_5]; rfl) | rfl) [0, 1, 2] rfl (by first | (simp only [cn, d_track, if_neg c_2, if_pos c_5]; rfl) | rfl)

set_option maxHeartbeats 4000000 in
set_option maxRecDepth 100000 in
theorem m_X6_setTempo (l : Launch) (hst : l.stackTraces = false) (g : gG) (mo : Nat) (th : Nat → Int32) (dd : Nat → Nat) (di : Nat → Int32) (sm : Int64) (te sw : Int32) : gMi l yX6_setTempo cX6_setTempo 4 .int 1 22 0 0 g [(mo, cO (dd 0) th), ((dd 0), cD dd di sm)] [.ref mo, .int te, .int sw] (fun (r : Int32) (_ : Unit) => r = (cn (d_tempo te sw) (di 6) 0)) (fun _ : Unit => [(mo, cO (dd 0) (fun _ => (d_tempo te sw))), ((dd 0), cD dd (cn (d_tempo te sw) (upd (upd di 6 te) 7 sw) di) sm)]) := by
  intro sz
  refine g_ent (by decide) hst [(0, .ref mo), (1, .int te), (2, .int sw)] (Nat.le_of_ble_eq_true rfl) rfl ?_
  intro p e s m below meth c B hr hnm hsz
  have B : gB p l s m ([.ref mo, .int te, .int sw] : List Value).toArray meth c RX6 cX6_setTempo 4 g (va_A [(mo, cO (dd 0) th), ((dd 0), cD dd di sm)] sz) := B
  refine g_aload_n B 0 0 dX6_setTempo_0 rfl rfl ?_
  refine g_iconst (v := 0) B dX6_setTempo_1 kc_0 ?_
  refine g_put (C := RX6) (T := TX6) (N := 2) (ty := .int) (v := .int 0) B 5 0 0 [(mo, cO (dd 0) (upd th 0 0)), ((dd 0), cD dd di sm)] in_X6 tyX6 tyX6_ok nmX6 rfl q1048 rfl (Nat.le_of_ble_eq_true rfl) (fun _ h9 => h9) rfl rfl rfl rfl (Nat.le_of_ble_eq_true rfl) rfl dX6_setTempo_2 ?_
  refine g_iload_n B 1 1 dX6_setTempo_5 rfl rfl ?_
  refine g_iconst (v := 1) B dX6_setTempo_6 kc_1 ?_
  refine g_sipush (v := 200) B dX6_setTempo_7 ks_200 ?_
  refine g_cuS_i (As := [.int te, .int 1, .int 200]) B (m_X6_isIn l hst g te 1 200) [] [] (lw_S q1063 q1064 q38 q1065) nsX6_isIn rfl rfl rfl rfl (Nat.le_of_ble_eq_true rfl) dX6_setTempo_10 ⟨Nat.le_of_ble_eq_true rfl, Nat.le_of_ble_eq_true rfl⟩ ⟨Nat.le_of_ble_eq_true rfl, Nat.le_of_ble_eq_true rfl⟩ (fun r_1 ur_1 hr_1 => ?_)
  have hr_1 : r_1 = in_z te 1 200 := hr_1
  refine g_if_eq (tgt := 27) B dX6_setTempo_13 (by decide) (fun c_2 => ?_) (fun c_2 => ?_)
  · skip
    refine g_aload_n B 0 0 dX6_setTempo_27 rfl rfl ?_
    refine g_iconst (v := 1) B dX6_setTempo_28 kc_1 ?_
    refine g_cV_i (C := RX6) (T := TX6) (N := 2) (As := [.int 1]) B (m_X6_no l hst g mo (upd th 0 0) dd di sm 1) 5 0 rfl rfl [0] [] (lw_V q1066 q1068 qs15 q38 q1069) nvX6_no rfl rfl (fun _ => rfl) rfl rfl (Nat.le_of_ble_eq_true rfl) dX6_setTempo_29 ⟨Nat.le_of_ble_eq_true rfl, Nat.le_of_ble_eq_true rfl⟩ ⟨Nat.le_of_ble_eq_true rfl, Nat.le_of_ble_eq_true rfl⟩ (fun r_3 ur_3 hr_3 => ?_)
    refine g_eqw (ws' := [(mo, cO (dd 0) (upd (upd th 0 0) 0 1)), ((dd 0), cD dd di sm)]) rfl ?_
    have hr_3 : r_3 = 0 := hr_3
    subst hr_1
    subst hr_3
    exact g_iret B hr dX6_setTempo_32 (Nat.le_of_ble_eq_true rfl) (Nat.le_of_ble_eq_true rfl) () (by first | (simp only [cn, d_tempo, if_pos c_2]; done) | (simp only [cn, d_tempo, if_pos c_2]; rfl) | rfl) [0, 1] rfl (by first | (simp only [cn, d_tempo, if_pos c_2]; rfl) | rfl)
  · skip
    refine g_iload_n B 2 2 dX6_setTempo_16 rfl rfl ?_
    refine g_iconst (v := 0) B dX6_setTempo_17 kc_0 ?_
    refine g_iload_n B 1 1 dX6_setTempo_18 rfl rfl ?_
    refine g_iconst (v := 1) B dX6_setTempo_19 kc_1 ?_
    refine g_isub B dX6_setTempo_20 ?_
    refine g_cuS_i (As := [.int sw, .int 0, .int (te - 1)]) B (m_X6_isIn l hst g sw 0 (te - 1)) [] [] (lw_S q1063 q1064 q38 q1065) nsX6_isIn rfl rfl rfl rfl (Nat.le_of_ble_eq_true rfl) dX6_setTempo_21 ⟨Nat.le_of_ble_eq_true rfl, Nat.le_of_ble_eq_true rfl⟩ ⟨Nat.le_of_ble_eq_true rfl, Nat.le_of_ble_eq_true rfl⟩ (fun r_4 ur_4 hr_4 => ?_)
    have hr_4 : r_4 = in_z sw 0 (te - 1) := hr_4
    refine g_if_ne (tgt := 33) B dX6_setTempo_24 (by decide) (fun c_5 => ?_) (fun c_5 => ?_)
    · skip
      refine g_aload_n B 0 0 dX6_setTempo_33 rfl rfl ?_
      refine g_get (C := RX6) (T := TX6) (N := 2) B 5 0 1 (.ref (dd 0)) in_X6 rfl q1049 rfl (Nat.le_of_ble_eq_true rfl) (fun _ h9 => h9) rfl dX6_setTempo_34 ?_
      refine g_get (C := RX7) (T := TX7) (N := 35) B 6 1 22 (.int (di 6)) in_X7 rfl q953 rfl (Nat.le_of_ble_eq_true rfl) (fun _ h9 => h9) rfl dX6_setTempo_37 ?_
      refine g_istore_n B 3 [(3, .int (di 6)), (0, .ref mo), (1, .int te), (2, .int sw)] dX6_setTempo_40 rfl (Nat.le_of_ble_eq_true rfl) rfl ?_
      refine g_aload_n B 0 1 dX6_setTempo_41 rfl rfl ?_
      refine g_get (C := RX6) (T := TX6) (N := 2) B 5 0 1 (.ref (dd 0)) in_X6 rfl q1049 rfl (Nat.le_of_ble_eq_true rfl) (fun _ h9 => h9) rfl dX6_setTempo_42 ?_
      refine g_iload_n B 1 2 dX6_setTempo_45 rfl rfl ?_
      refine g_put (C := RX7) (T := TX7) (N := 35) (ty := .int) (v := .int te) B 6 1 22 [(mo, cO (dd 0) (upd th 0 0)), ((dd 0), cD dd (upd di 6 te) sm)] in_X7 tyX7 tyX7_ok nmX7 rfl q953 rfl (Nat.le_of_ble_eq_true rfl) (fun _ h9 => h9) rfl rfl rfl rfl (Nat.le_of_ble_eq_true rfl) rfl dX6_setTempo_46 ?_
      refine g_aload_n B 0 1 dX6_setTempo_49 rfl rfl ?_
      refine g_get (C := RX6) (T := TX6) (N := 2) B 5 0 1 (.ref (dd 0)) in_X6 rfl q1049 rfl (Nat.le_of_ble_eq_true rfl) (fun _ h9 => h9) rfl dX6_setTempo_50 ?_
      refine g_iload_n B 2 3 dX6_setTempo_53 rfl rfl ?_
      refine g_put (C := RX7) (T := TX7) (N := 35) (ty := .int) (v := .int sw) B 6 1 23 [(mo, cO (dd 0) (upd th 0 0)), ((dd 0), cD dd (upd (upd di 6 te) 7 sw) sm)] in_X7 tyX7 tyX7_ok nmX7 rfl q955 rfl (Nat.le_of_ble_eq_true rfl) (fun _ h9 => h9) rfl rfl rfl rfl (Nat.le_of_ble_eq_true rfl) rfl dX6_setTempo_54 ?_
      refine g_iload_n B 3 0 dX6_setTempo_57 rfl rfl ?_
      subst hr_1
      subst hr_4
      exact g_iret B hr dX6_setTempo_58 (Nat.le_of_ble_eq_true rfl) (Nat.le_of_ble_eq_true rfl) () (by first | (simp only [cn, d_tempo, if_neg c_2, if_neg c_5]; done) | (simp only [cn, d_tempo, if_neg c_2, if_neg c_5]; rfl) | rfl) [0, 1] rfl (by first | (simp only [cn, d_tempo, if_neg c_2, if_neg c_5]; rfl) | rfl)
    · skip
      refine g_aload_n B 0 0 dX6_setTempo_27 rfl rfl ?_
      refine g_iconst (v := 1) B dX6_setTempo_28 kc_1 ?_
      refine g_cV_i (C := RX6) (T := TX6) (N := 2) (As := [.int 1]) B (m_X6_no l hst g mo (upd th 0 0) dd di sm 1) 5 0 rfl rfl [0] [] (lw_V q1066 q1068 qs15 q38 q1069) nvX6_no rfl rfl (fun _ => rfl) rfl rfl (Nat.le_of_ble_eq_true rfl) dX6_setTempo_29 ⟨Nat.le_of_ble_eq_true rfl, Nat.le_of_ble_eq_true rfl⟩ ⟨Nat.le_of_ble_eq_true rfl, Nat.le_of_ble_eq_true rfl⟩ (fun r_6 ur_6 hr_6 => ?_)
      refine g_eqw (ws' := [(mo, cO (dd 0) (upd (upd th 0 0) 0 1)), ((dd 0), cD dd di sm)]) rfl ?_
      have hr_6 : r_6 = 0 := hr_6
      subst hr_1
      subst hr_4
      subst hr_6
      exact g_iret B hr dX6_setTempo_32 (Nat.le_of_ble_eq_true rfl) (Nat.le_of_ble_eq_true rfl) () (by first | (simp only [cn, d_tempo, if_neg c_2, if_pos c_5]; done) | (simp only [cn, d_tempo, if_neg c_2, if_pos c_5]; rfl) | rfl) [0, 1] rfl (by first | (simp only [cn, d_tempo, if_neg c_2, if_pos c_5]; rfl) | rfl)

set_option maxHeartbeats 4000000 in
set_option maxRecDepth 100000 in
theorem m_X6_play (l : Launch) (hst : l.stackTraces = false) (g : gG) (mo : Nat) (th : Nat → Int32) (dd : Nat → Nat) (di : Nat → Int32) (sm : Int64) (j : Int32) (hp : di 8 = 0 ∨ di 8 = 1) : gMi l yX6_play cX6_play 3 .boolean 2 42 0 0 g [(mo, cO (dd 0) th), ((dd 0), cD dd di sm)] [.ref mo, .int j] (fun (r : Int32) (_ : Unit) => r = (cn (d_play j) (di 8) 0)) (fun _ : Unit => [(mo, cO (dd 0) (fun _ => (d_play j))), ((dd 0), cD dd (cn (d_play j) (upd (upd (upd di 8 1) 9 j) 10 0) di) sm)]) := by
  intro sz
  refine g_ent (by decide) hst [(0, .ref mo), (1, .int j)] (Nat.le_of_ble_eq_true rfl) rfl ?_
  intro p e s m below meth c B hr hnm hsz
  have B : gB p l s m ([.ref mo, .int j] : List Value).toArray meth c RX6 cX6_play 3 g (va_A [(mo, cO (dd 0) th), ((dd 0), cD dd di sm)] sz) := B
  refine g_aload_n B 0 0 dX6_play_0 rfl rfl ?_
  refine g_iload_n B 1 1 dX6_play_1 rfl rfl ?_
  refine g_cuS_i (As := [.int j]) B (m_X6_isStep l hst g j) [] [.ref mo] (lw_S q1161 q1162 q38 q1163) nsX6_isStep rfl rfl rfl rfl (Nat.le_of_ble_eq_true rfl) dX6_play_2 ⟨Nat.le_of_ble_eq_true rfl, Nat.le_of_ble_eq_true rfl⟩ ⟨Nat.le_of_ble_eq_true rfl, Nat.le_of_ble_eq_true rfl⟩ (fun r_1 ur_1 hr_1 => ?_)
  have hr_1 : r_1 = in_z j 0 7 := hr_1
  refine g_if_eq (tgt := 12) B dX6_play_5 (by decide) (fun c_2 => ?_) (fun c_2 => ?_)
  · skip
    refine g_iconst (v := 1) B dX6_play_12 kc_1 ?_
    refine g_put (C := RX6) (T := TX6) (N := 2) (ty := .int) (v := .int 1) B 5 0 0 [(mo, cO (dd 0) (upd th 0 1)), ((dd 0), cD dd di sm)] in_X6 tyX6 tyX6_ok nmX6 rfl q1048 rfl (Nat.le_of_ble_eq_true rfl) (fun _ h9 => h9) rfl rfl rfl rfl (Nat.le_of_ble_eq_true rfl) rfl dX6_play_13 ?_
    refine g_aload_n B 0 0 dX6_play_16 rfl rfl ?_
    refine g_get (C := RX6) (T := TX6) (N := 2) B 5 0 0 (.int 1) in_X6 rfl q1048 rfl (Nat.le_of_ble_eq_true rfl) (fun _ h9 => h9) rfl dX6_play_17 ?_
    refine g_if_eq_F (tgt := 25) B dX6_play_20 (by decide) (by decide) ?_
    refine g_iconst (v := 0) B dX6_play_23 kc_0 ?_
    subst hr_1
    exact g_zret B hr rfl dX6_play_24 (Nat.le_of_ble_eq_true rfl) (Nat.le_of_ble_eq_true rfl) () (by first | (simp only [cn, d_play, if_pos c_2]; done) | (simp only [cn, d_play, if_pos c_2]; rfl) | rfl) [0, 1] rfl (by first | (simp only [cn, d_play, if_pos c_2]; rfl) | rfl)
  · skip
    refine g_iconst (v := 0) B dX6_play_8 kc_0 ?_
    refine g_goto (tgt := 13) B dX6_play_9 (by decide) ?_
    refine g_put (C := RX6) (T := TX6) (N := 2) (ty := .int) (v := .int 0) B 5 0 0 [(mo, cO (dd 0) (upd th 0 0)), ((dd 0), cD dd di sm)] in_X6 tyX6 tyX6_ok nmX6 rfl q1048 rfl (Nat.le_of_ble_eq_true rfl) (fun _ h9 => h9) rfl rfl rfl rfl (Nat.le_of_ble_eq_true rfl) rfl dX6_play_13 ?_
    refine g_aload_n B 0 0 dX6_play_16 rfl rfl ?_
    refine g_get (C := RX6) (T := TX6) (N := 2) B 5 0 0 (.int 0) in_X6 rfl q1048 rfl (Nat.le_of_ble_eq_true rfl) (fun _ h9 => h9) rfl dX6_play_17 ?_
    refine g_if_eq_T (tgt := 25) B dX6_play_20 (by decide) (by decide) ?_
    refine g_aload_n B 0 0 dX6_play_25 rfl rfl ?_
    refine g_get (C := RX6) (T := TX6) (N := 2) B 5 0 1 (.ref (dd 0)) in_X6 rfl q1049 rfl (Nat.le_of_ble_eq_true rfl) (fun _ h9 => h9) rfl dX6_play_26 ?_
    refine g_get (C := RX7) (T := TX7) (N := 35) B 6 1 24 (.int (di 8)) in_X7 rfl q957 rfl (Nat.le_of_ble_eq_true rfl) (fun _ h9 => h9) rfl dX6_play_29 ?_
    refine g_istore_n B 2 [(2, .int (di 8)), (0, .ref mo), (1, .int j)] dX6_play_32 rfl (Nat.le_of_ble_eq_true rfl) rfl ?_
    refine g_aload_n B 0 1 dX6_play_33 rfl rfl ?_
    refine g_get (C := RX6) (T := TX6) (N := 2) B 5 0 1 (.ref (dd 0)) in_X6 rfl q1049 rfl (Nat.le_of_ble_eq_true rfl) (fun _ h9 => h9) rfl dX6_play_34 ?_
    refine g_iconst (v := 1) B dX6_play_37 kc_1 ?_
    refine g_put (C := RX7) (T := TX7) (N := 35) (ty := .boolean) (v := .int 1) B 6 1 24 [(mo, cO (dd 0) (upd th 0 0)), ((dd 0), cD dd (upd di 8 1) sm)] in_X7 tyX7 tyX7_ok nmX7 rfl q957 rfl (Nat.le_of_ble_eq_true rfl) (fun _ h9 => h9) rfl rfl rfl rfl (Nat.le_of_ble_eq_true rfl) rfl dX6_play_38 ?_
    refine g_aload_n B 0 1 dX6_play_41 rfl rfl ?_
    refine g_get (C := RX6) (T := TX6) (N := 2) B 5 0 1 (.ref (dd 0)) in_X6 rfl q1049 rfl (Nat.le_of_ble_eq_true rfl) (fun _ h9 => h9) rfl dX6_play_42 ?_
    refine g_iload_n B 1 2 dX6_play_45 rfl rfl ?_
    refine g_put (C := RX7) (T := TX7) (N := 35) (ty := .int) (v := .int j) B 6 1 25 [(mo, cO (dd 0) (upd th 0 0)), ((dd 0), cD dd (upd (upd di 8 1) 9 j) sm)] in_X7 tyX7 tyX7_ok nmX7 rfl q959 rfl (Nat.le_of_ble_eq_true rfl) (fun _ h9 => h9) rfl rfl rfl rfl (Nat.le_of_ble_eq_true rfl) rfl dX6_play_46 ?_
    refine g_aload_n B 0 1 dX6_play_49 rfl rfl ?_
    refine g_get (C := RX6) (T := TX6) (N := 2) B 5 0 1 (.ref (dd 0)) in_X6 rfl q1049 rfl (Nat.le_of_ble_eq_true rfl) (fun _ h9 => h9) rfl dX6_play_50 ?_
    refine g_iconst (v := 0) B dX6_play_53 kc_0 ?_
    refine g_put (C := RX7) (T := TX7) (N := 35) (ty := .int) (v := .int 0) B 6 1 26 [(mo, cO (dd 0) (upd th 0 0)), ((dd 0), cD dd (upd (upd (upd di 8 1) 9 j) 10 0) sm)] in_X7 tyX7 tyX7_ok nmX7 rfl q961 rfl (Nat.le_of_ble_eq_true rfl) (fun _ h9 => h9) rfl rfl rfl rfl (Nat.le_of_ble_eq_true rfl) rfl dX6_play_54 ?_
    refine g_iload_n B 2 0 dX6_play_57 rfl rfl ?_
    subst hr_1
    exact g_zret B hr (zb_n hp) dX6_play_58 (Nat.le_of_ble_eq_true rfl) (Nat.le_of_ble_eq_true rfl) () (by first | (simp only [cn, d_play, if_neg c_2]; done) | (simp only [cn, d_play, if_neg c_2]; rfl) | rfl) [0, 1] rfl (by first | (simp only [cn, d_play, if_neg c_2]; rfl) | rfl)

set_option maxHeartbeats 4000000 in
set_option maxRecDepth 100000 in
theorem m_X6_stepNow (l : Launch) (hst : l.stackTraces = false) (g : gG) (mo : Nat) (th : Nat → Int32) (dd : Nat → Nat) (di : Nat → Int32) (sm : Int64) : gMi l yX6_stepNow cX6_stepNow 1 .int 0 0 0 0 g [(mo, cO (dd 0) th), ((dd 0), cD dd di sm)] [.ref mo] (fun (r : Int32) (_ : Unit) => r = d_step di) (fun _ : Unit => [(mo, cO (dd 0) th), ((dd 0), cD dd di sm)]) := by
  intro sz
  refine g_ent (by decide) hst [(0, .ref mo)] (Nat.le_of_ble_eq_true rfl) rfl ?_
  intro p e s m below meth c B hr hnm hsz
  have B : gB p l s m ([.ref mo] : List Value).toArray meth c RX6 cX6_stepNow 1 g (va_A [(mo, cO (dd 0) th), ((dd 0), cD dd di sm)] sz) := B
  refine g_aload_n B 0 0 dX6_stepNow_0 rfl rfl ?_
  refine g_get (C := RX6) (T := TX6) (N := 2) B 5 0 1 (.ref (dd 0)) in_X6 rfl q1049 rfl (Nat.le_of_ble_eq_true rfl) (fun _ h9 => h9) rfl dX6_stepNow_1 ?_
  refine g_get (C := RX7) (T := TX7) (N := 35) B 6 1 24 (.int (di 8)) in_X7 rfl q957 rfl (Nat.le_of_ble_eq_true rfl) (fun _ h9 => h9) rfl dX6_stepNow_4 ?_
  refine g_if_eq (tgt := 20) B dX6_stepNow_7 (by decide) (fun c_1 => ?_) (fun c_1 => ?_)
  · skip
    refine g_iconst (v := (-1)) B dX6_stepNow_20 kc_m1 ?_
    exact g_iret B hr dX6_stepNow_21 (Nat.le_of_ble_eq_true rfl) (Nat.le_of_ble_eq_true rfl) () (by first | (simp only [d_step, if_pos c_1]; done) | (simp only [d_step, if_pos c_1]; rfl) | rfl) [0, 1] rfl rfl
  · skip
    refine g_aload_n B 0 0 dX6_stepNow_10 rfl rfl ?_
    refine g_get (C := RX6) (T := TX6) (N := 2) B 5 0 1 (.ref (dd 0)) in_X6 rfl q1049 rfl (Nat.le_of_ble_eq_true rfl) (fun _ h9 => h9) rfl dX6_stepNow_11 ?_
    refine g_get (C := RX7) (T := TX7) (N := 35) B 6 1 25 (.int (di 9)) in_X7 rfl q959 rfl (Nat.le_of_ble_eq_true rfl) (fun _ h9 => h9) rfl dX6_stepNow_14 ?_
    refine g_goto (tgt := 21) B dX6_stepNow_17 (by decide) ?_
    exact g_iret B hr dX6_stepNow_21 (Nat.le_of_ble_eq_true rfl) (Nat.le_of_ble_eq_true rfl) () (by first | (simp only [d_step, if_neg c_1]; done) | (simp only [d_step, if_neg c_1]; rfl) | rfl) [0, 1] rfl rfl

set_option maxHeartbeats 4000000 in
set_option maxRecDepth 100000 in
theorem m_X6_stop (l : Launch) (hst : l.stackTraces = false) (g : gG) (mo : Nat) (th : Nat → Int32) (dd : Nat → Nat) (di : Nat → Int32) (sm : Int64) : gMi l yX6_stop cX6_stop 2 .int 1 20 0 0 g [(mo, cO (dd 0) th), ((dd 0), cD dd di sm)] [.ref mo] (fun (r : Int32) (_ : Unit) => r = d_step di) (fun _ : Unit => [(mo, cO (dd 0) (fun _ => 0)), ((dd 0), cD dd (upd di 8 0) sm)]) := by
  intro sz
  refine g_ent (by decide) hst [(0, .ref mo)] (Nat.le_of_ble_eq_true rfl) rfl ?_
  intro p e s m below meth c B hr hnm hsz
  have B : gB p l s m ([.ref mo] : List Value).toArray meth c RX6 cX6_stop 2 g (va_A [(mo, cO (dd 0) th), ((dd 0), cD dd di sm)] sz) := B
  refine g_aload_n B 0 0 dX6_stop_0 rfl rfl ?_
  refine g_iconst (v := 0) B dX6_stop_1 kc_0 ?_
  refine g_put (C := RX6) (T := TX6) (N := 2) (ty := .int) (v := .int 0) B 5 0 0 [(mo, cO (dd 0) (upd th 0 0)), ((dd 0), cD dd di sm)] in_X6 tyX6 tyX6_ok nmX6 rfl q1048 rfl (Nat.le_of_ble_eq_true rfl) (fun _ h9 => h9) rfl rfl rfl rfl (Nat.le_of_ble_eq_true rfl) rfl dX6_stop_2 ?_
  refine g_aload_n B 0 0 dX6_stop_5 rfl rfl ?_
  refine g_cuV_i (C := RX6) (T := TX6) (N := 2) (As := []) B (m_X6_stepNow l hst g mo (upd th 0 0) dd di sm) 5 0 rfl rfl [0, 1] [] (lw_V q1180 q1182 qs18 q38 q1183) nvX6_stepNow rfl rfl rfl rfl (Nat.le_of_ble_eq_true rfl) dX6_stop_6 ⟨Nat.le_of_ble_eq_true rfl, Nat.le_of_ble_eq_true rfl⟩ ⟨Nat.le_of_ble_eq_true rfl, Nat.le_of_ble_eq_true rfl⟩ (fun r_1 ur_1 hr_1 => ?_)
  have hr_1 : r_1 = d_step di := hr_1
  refine g_istore_n B 1 [(1, .int r_1), (0, .ref mo)] dX6_stop_9 rfl (Nat.le_of_ble_eq_true rfl) rfl ?_
  refine g_aload_n B 0 1 dX6_stop_10 rfl rfl ?_
  refine g_get (C := RX6) (T := TX6) (N := 2) B 5 0 1 (.ref (dd 0)) in_X6 rfl q1049 rfl (Nat.le_of_ble_eq_true rfl) (fun _ h9 => h9) rfl dX6_stop_11 ?_
  refine g_iconst (v := 0) B dX6_stop_14 kc_0 ?_
  refine g_put (C := RX7) (T := TX7) (N := 35) (ty := .boolean) (v := .int 0) B 6 1 24 [(mo, cO (dd 0) (upd th 0 0)), ((dd 0), cD dd (upd di 8 0) sm)] in_X7 tyX7 tyX7_ok nmX7 rfl q957 rfl (Nat.le_of_ble_eq_true rfl) (fun _ h9 => h9) rfl rfl rfl rfl (Nat.le_of_ble_eq_true rfl) rfl dX6_stop_15 ?_
  refine g_iload_n B 1 0 dX6_stop_18 rfl rfl ?_
  subst hr_1
  exact g_iret B hr dX6_stop_19 (Nat.le_of_ble_eq_true rfl) (Nat.le_of_ble_eq_true rfl) () rfl [0, 1] rfl rfl

set_option maxHeartbeats 4000000 in
set_option maxRecDepth 100000 in
theorem m_X6_heard (l : Launch) (hst : l.stackTraces = false) (g : gG) (mo : Nat) (th : Nat → Int32) (dd : Nat → Nat) (di : Nat → Int32) (sm : Int64) (da : Nat → Nat → Int32) (b : Int32) : gMi l yX6_heard cX6_heard 2 .int 1 22 0 0 g [(mo, cO (dd 0) th), ((dd 0), cD dd di sm), ((dd 17), .inl (g.2.1, 64, .inl (da 17)))] [.ref mo, .int b] (fun (r : Int32) (_ : Unit) => r = (cn (d_heard b) (da 17 b.toNatClampNeg) 0)) (fun _ : Unit => [(mo, cO (dd 0) (fun _ => (d_heard b))), ((dd 0), cD dd di sm), ((dd 17), .inl (g.2.1, 64, .inl (da 17)))]) := by
  intro sz
  refine g_ent (by decide) hst [(0, .ref mo), (1, .int b)] (Nat.le_of_ble_eq_true rfl) rfl ?_
  intro p e s m below meth c B hr hnm hsz
  have B : gB p l s m ([.ref mo, .int b] : List Value).toArray meth c RX6 cX6_heard 2 g (va_A [(mo, cO (dd 0) th), ((dd 0), cD dd di sm), ((dd 17), .inl (g.2.1, 64, .inl (da 17)))] sz) := B
  refine g_aload_n B 0 0 dX6_heard_0 rfl rfl ?_
  refine g_iconst (v := 0) B dX6_heard_1 kc_0 ?_
  refine g_put (C := RX6) (T := TX6) (N := 2) (ty := .int) (v := .int 0) B 5 0 0 [(mo, cO (dd 0) (upd th 0 0)), ((dd 0), cD dd di sm), ((dd 17), .inl (g.2.1, 64, .inl (da 17)))] in_X6 tyX6 tyX6_ok nmX6 rfl q1048 rfl (Nat.le_of_ble_eq_true rfl) (fun _ h9 => h9) rfl rfl rfl rfl (Nat.le_of_ble_eq_true rfl) rfl dX6_heard_2 ?_
  refine g_iload_n B 1 1 dX6_heard_5 rfl rfl ?_
  refine g_iconst (v := 0) B dX6_heard_6 kc_0 ?_
  refine g_bipush (v := 63) B dX6_heard_7 kb_63 ?_
  refine g_cuS_i (As := [.int b, .int 0, .int 63]) B (m_X6_isIn l hst g b 0 63) [] [] (lw_S q1063 q1064 q38 q1065) nsX6_isIn rfl rfl rfl rfl (Nat.le_of_ble_eq_true rfl) dX6_heard_9 ⟨Nat.le_of_ble_eq_true rfl, Nat.le_of_ble_eq_true rfl⟩ ⟨Nat.le_of_ble_eq_true rfl, Nat.le_of_ble_eq_true rfl⟩ (fun r_1 ur_1 hr_1 => ?_)
  have hr_1 : r_1 = in_z b 0 63 := hr_1
  refine g_if_eq (tgt := 27) B dX6_heard_12 (by decide) (fun c_2 => ?_) (fun c_2 => ?_)
  · skip
    refine g_aload_n B 0 0 dX6_heard_27 rfl rfl ?_
    refine g_iconst (v := 1) B dX6_heard_28 kc_1 ?_
    refine g_cV_i (C := RX6) (T := TX6) (N := 2) (As := [.int 1]) B (m_X6_no l hst g mo (upd th 0 0) dd di sm 1) 5 0 rfl rfl [0] [] (lw_V q1066 q1068 qs15 q38 q1069) nvX6_no rfl rfl (fun _ => rfl) rfl rfl (Nat.le_of_ble_eq_true rfl) dX6_heard_29 ⟨Nat.le_of_ble_eq_true rfl, Nat.le_of_ble_eq_true rfl⟩ ⟨Nat.le_of_ble_eq_true rfl, Nat.le_of_ble_eq_true rfl⟩ (fun r_3 ur_3 hr_3 => ?_)
    refine g_eqw (ws' := [(mo, cO (dd 0) (upd (upd th 0 0) 0 1)), ((dd 0), cD dd di sm), ((dd 17), .inl (g.2.1, 64, .inl (da 17)))]) rfl ?_
    have hr_3 : r_3 = 0 := hr_3
    subst hr_1
    subst hr_3
    exact g_iret B hr dX6_heard_32 (Nat.le_of_ble_eq_true rfl) (Nat.le_of_ble_eq_true rfl) () (by first | (simp only [cn, d_heard, if_pos c_2]; done) | (simp only [cn, d_heard, if_pos c_2]; rfl) | rfl) [0, 1, 2] rfl (by first | (simp only [cn, d_heard, if_pos c_2]; rfl) | rfl)
  · skip
    refine g_aload_n B 0 0 dX6_heard_15 rfl rfl ?_
    refine g_get (C := RX6) (T := TX6) (N := 2) B 5 0 1 (.ref (dd 0)) in_X6 rfl q1049 rfl (Nat.le_of_ble_eq_true rfl) (fun _ h9 => h9) rfl dX6_heard_16 ?_
    refine g_get (C := RX7) (T := TX7) (N := 35) B 6 1 29 (.ref (dd 17)) in_X7 rfl q966 rfl (Nat.le_of_ble_eq_true rfl) (fun _ h9 => h9) rfl dX6_heard_19 ?_
    refine g_iload_n B 1 1 dX6_heard_22 rfl rfl ?_
    refine g_iald B 2 b.toNatClampNeg rfl rfl (iz_in (by rw [← hr_1]; exact c_2) (by decide)) dX6_heard_23 ?_
    refine g_goto (tgt := 32) B dX6_heard_24 (by decide) ?_
    refine g_topi (fun x_4 ex_4 => ?_)
    subst hr_1
    subst ex_4
    exact g_iret B hr dX6_heard_32 (Nat.le_of_ble_eq_true rfl) (Nat.le_of_ble_eq_true rfl) () (by first | (simp only [cn, d_heard, if_neg c_2]; done) | (simp only [cn, d_heard, if_neg c_2]; rfl) | rfl) [0, 1, 2] rfl (by first | (simp only [cn, d_heard, if_neg c_2]; rfl) | rfl)

set_option maxHeartbeats 4000000 in
set_option maxRecDepth 100000 in
theorem m_X6_clock (l : Launch) (hst : l.stackTraces = false) (g : gG) (mo : Nat) (th : Nat → Int32) (dd : Nat → Nat) (di : Nat → Int32) (sm : Int64) : gMi l yX6_clock cX6_clock 1 .int 1 21 0 0 g [(mo, cO (dd 0) th), ((dd 0), cD dd di sm)] [.ref mo] (fun (r : Int32) (_ : Unit) => r = di 12) (fun _ : Unit => [(mo, cO (dd 0) (fun _ => 0)), ((dd 0), cD dd di sm)]) := by
  intro sz
  refine g_ent (by decide) hst [(0, .ref mo)] (Nat.le_of_ble_eq_true rfl) rfl ?_
  intro p e s m below meth c B hr hnm hsz
  have B : gB p l s m ([.ref mo] : List Value).toArray meth c RX6 cX6_clock 1 g (va_A [(mo, cO (dd 0) th), ((dd 0), cD dd di sm)] sz) := B
  refine g_aload_n B 0 0 dX6_clock_0 rfl rfl ?_
  refine g_aload_n B 0 0 dX6_clock_1 rfl rfl ?_
  refine g_get (C := RX6) (T := TX6) (N := 2) B 5 0 1 (.ref (dd 0)) in_X6 rfl q1049 rfl (Nat.le_of_ble_eq_true rfl) (fun _ h9 => h9) rfl dX6_clock_2 ?_
  refine g_get (C := RX7) (T := TX7) (N := 35) B 6 1 28 (.int (di 12)) in_X7 rfl q964 rfl (Nat.le_of_ble_eq_true rfl) (fun _ h9 => h9) rfl dX6_clock_5 ?_
  refine g_cV_i (C := RX6) (T := TX6) (N := 2) (As := [.int (di 12)]) B (m_X6_ok l hst g mo th dd di sm (di 12)) 5 0 rfl rfl [0] [] (lw_V q1224 q1226 qs23 q38 q1227) nvX6_ok rfl rfl (fun _ => rfl) rfl rfl (Nat.le_of_ble_eq_true rfl) dX6_clock_8 ⟨Nat.le_of_ble_eq_true rfl, Nat.le_of_ble_eq_true rfl⟩ ⟨Nat.le_of_ble_eq_true rfl, Nat.le_of_ble_eq_true rfl⟩ (fun r_1 ur_1 hr_1 => ?_)
  refine g_eqw (ws' := [(mo, cO (dd 0) (upd th 0 0)), ((dd 0), cD dd di sm)]) rfl ?_
  have hr_1 : r_1 = (di 12) := hr_1
  subst hr_1
  exact g_iret B hr dX6_clock_11 (Nat.le_of_ble_eq_true rfl) (Nat.le_of_ble_eq_true rfl) () rfl [0, 1] rfl rfl

set_option maxHeartbeats 4000000 in
set_option maxRecDepth 100000 in
theorem m_X6_peak (l : Launch) (hst : l.stackTraces = false) (g : gG) (mo : Nat) (th : Nat → Int32) (dd : Nat → Nat) (di : Nat → Int32) (sm : Int64) : gMi l yX6_peak cX6_peak 1 .int 1 21 0 0 g [(mo, cO (dd 0) th), ((dd 0), cD dd di sm)] [.ref mo] (fun (r : Int32) (_ : Unit) => r = di 14) (fun _ : Unit => [(mo, cO (dd 0) (fun _ => 0)), ((dd 0), cD dd di sm)]) := by
  intro sz
  refine g_ent (by decide) hst [(0, .ref mo)] (Nat.le_of_ble_eq_true rfl) rfl ?_
  intro p e s m below meth c B hr hnm hsz
  have B : gB p l s m ([.ref mo] : List Value).toArray meth c RX6 cX6_peak 1 g (va_A [(mo, cO (dd 0) th), ((dd 0), cD dd di sm)] sz) := B
  refine g_aload_n B 0 0 dX6_peak_0 rfl rfl ?_
  refine g_aload_n B 0 0 dX6_peak_1 rfl rfl ?_
  refine g_get (C := RX6) (T := TX6) (N := 2) B 5 0 1 (.ref (dd 0)) in_X6 rfl q1049 rfl (Nat.le_of_ble_eq_true rfl) (fun _ h9 => h9) rfl dX6_peak_2 ?_
  refine g_get (C := RX7) (T := TX7) (N := 35) B 6 1 31 (.int (di 14)) in_X7 rfl q970 rfl (Nat.le_of_ble_eq_true rfl) (fun _ h9 => h9) rfl dX6_peak_5 ?_
  refine g_cV_i (C := RX6) (T := TX6) (N := 2) (As := [.int (di 14)]) B (m_X6_ok l hst g mo th dd di sm (di 14)) 5 0 rfl rfl [0] [] (lw_V q1224 q1226 qs23 q38 q1227) nvX6_ok rfl rfl (fun _ => rfl) rfl rfl (Nat.le_of_ble_eq_true rfl) dX6_peak_8 ⟨Nat.le_of_ble_eq_true rfl, Nat.le_of_ble_eq_true rfl⟩ ⟨Nat.le_of_ble_eq_true rfl, Nat.le_of_ble_eq_true rfl⟩ (fun r_1 ur_1 hr_1 => ?_)
  refine g_eqw (ws' := [(mo, cO (dd 0) (upd th 0 0)), ((dd 0), cD dd di sm)]) rfl ?_
  have hr_1 : r_1 = (di 14) := hr_1
  subst hr_1
  exact g_iret B hr dX6_peak_11 (Nat.le_of_ble_eq_true rfl) (Nat.le_of_ble_eq_true rfl) () rfl [0, 1] rfl rfl

set_option maxHeartbeats 4000000 in
set_option maxRecDepth 100000 in
theorem m_X6_clipped (l : Launch) (hst : l.stackTraces = false) (g : gG) (mo : Nat) (th : Nat → Int32) (dd : Nat → Nat) (di : Nat → Int32) (sm : Int64) : gMi l yX6_clipped cX6_clipped 1 .int 1 21 0 0 g [(mo, cO (dd 0) th), ((dd 0), cD dd di sm)] [.ref mo] (fun (r : Int32) (_ : Unit) => r = di 15) (fun _ : Unit => [(mo, cO (dd 0) (fun _ => 0)), ((dd 0), cD dd di sm)]) := by
  intro sz
  refine g_ent (by decide) hst [(0, .ref mo)] (Nat.le_of_ble_eq_true rfl) rfl ?_
  intro p e s m below meth c B hr hnm hsz
  have B : gB p l s m ([.ref mo] : List Value).toArray meth c RX6 cX6_clipped 1 g (va_A [(mo, cO (dd 0) th), ((dd 0), cD dd di sm)] sz) := B
  refine g_aload_n B 0 0 dX6_clipped_0 rfl rfl ?_
  refine g_aload_n B 0 0 dX6_clipped_1 rfl rfl ?_
  refine g_get (C := RX6) (T := TX6) (N := 2) B 5 0 1 (.ref (dd 0)) in_X6 rfl q1049 rfl (Nat.le_of_ble_eq_true rfl) (fun _ h9 => h9) rfl dX6_clipped_2 ?_
  refine g_get (C := RX7) (T := TX7) (N := 35) B 6 1 32 (.int (di 15)) in_X7 rfl q972 rfl (Nat.le_of_ble_eq_true rfl) (fun _ h9 => h9) rfl dX6_clipped_5 ?_
  refine g_cV_i (C := RX6) (T := TX6) (N := 2) (As := [.int (di 15)]) B (m_X6_ok l hst g mo th dd di sm (di 15)) 5 0 rfl rfl [0] [] (lw_V q1224 q1226 qs23 q38 q1227) nvX6_ok rfl rfl (fun _ => rfl) rfl rfl (Nat.le_of_ble_eq_true rfl) dX6_clipped_8 ⟨Nat.le_of_ble_eq_true rfl, Nat.le_of_ble_eq_true rfl⟩ ⟨Nat.le_of_ble_eq_true rfl, Nat.le_of_ble_eq_true rfl⟩ (fun r_1 ur_1 hr_1 => ?_)
  refine g_eqw (ws' := [(mo, cO (dd 0) (upd th 0 0)), ((dd 0), cD dd di sm)]) rfl ?_
  have hr_1 : r_1 = (di 15) := hr_1
  subst hr_1
  exact g_iret B hr dX6_clipped_11 (Nat.le_of_ble_eq_true rfl) (Nat.le_of_ble_eq_true rfl) () rfl [0, 1] rfl rfl

set_option maxHeartbeats 4000000 in
set_option maxRecDepth 100000 in
theorem m_X6_crossings (l : Launch) (hst : l.stackTraces = false) (g : gG) (mo : Nat) (th : Nat → Int32) (dd : Nat → Nat) (di : Nat → Int32) (sm : Int64) : gMi l yX6_crossings cX6_crossings 1 .int 1 21 0 0 g [(mo, cO (dd 0) th), ((dd 0), cD dd di sm)] [.ref mo] (fun (r : Int32) (_ : Unit) => r = di 16) (fun _ : Unit => [(mo, cO (dd 0) (fun _ => 0)), ((dd 0), cD dd di sm)]) := by
  intro sz
  refine g_ent (by decide) hst [(0, .ref mo)] (Nat.le_of_ble_eq_true rfl) rfl ?_
  intro p e s m below meth c B hr hnm hsz
  have B : gB p l s m ([.ref mo] : List Value).toArray meth c RX6 cX6_crossings 1 g (va_A [(mo, cO (dd 0) th), ((dd 0), cD dd di sm)] sz) := B
  refine g_aload_n B 0 0 dX6_crossings_0 rfl rfl ?_
  refine g_aload_n B 0 0 dX6_crossings_1 rfl rfl ?_
  refine g_get (C := RX6) (T := TX6) (N := 2) B 5 0 1 (.ref (dd 0)) in_X6 rfl q1049 rfl (Nat.le_of_ble_eq_true rfl) (fun _ h9 => h9) rfl dX6_crossings_2 ?_
  refine g_get (C := RX7) (T := TX7) (N := 35) B 6 1 33 (.int (di 16)) in_X7 rfl q974 rfl (Nat.le_of_ble_eq_true rfl) (fun _ h9 => h9) rfl dX6_crossings_5 ?_
  refine g_cV_i (C := RX6) (T := TX6) (N := 2) (As := [.int (di 16)]) B (m_X6_ok l hst g mo th dd di sm (di 16)) 5 0 rfl rfl [0] [] (lw_V q1224 q1226 qs23 q38 q1227) nvX6_ok rfl rfl (fun _ => rfl) rfl rfl (Nat.le_of_ble_eq_true rfl) dX6_crossings_8 ⟨Nat.le_of_ble_eq_true rfl, Nat.le_of_ble_eq_true rfl⟩ ⟨Nat.le_of_ble_eq_true rfl, Nat.le_of_ble_eq_true rfl⟩ (fun r_1 ur_1 hr_1 => ?_)
  refine g_eqw (ws' := [(mo, cO (dd 0) (upd th 0 0)), ((dd 0), cD dd di sm)]) rfl ?_
  have hr_1 : r_1 = (di 16) := hr_1
  subst hr_1
  exact g_iret B hr dX6_crossings_11 (Nat.le_of_ble_eq_true rfl) (Nat.le_of_ble_eq_true rfl) () rfl [0, 1] rfl rfl

set_option maxHeartbeats 4000000 in
set_option maxRecDepth 100000 in
theorem m_X6_taken (l : Launch) (hst : l.stackTraces = false) (g : gG) (mo : Nat) (th : Nat → Int32) (dd : Nat → Nat) (di : Nat → Int32) (sm : Int64) : gMi l yX6_taken cX6_taken 1 .int 1 21 0 0 g [(mo, cO (dd 0) th), ((dd 0), cD dd di sm)] [.ref mo] (fun (r : Int32) (_ : Unit) => r = di 1) (fun _ : Unit => [(mo, cO (dd 0) (fun _ => 0)), ((dd 0), cD dd di sm)]) := by
  intro sz
  refine g_ent (by decide) hst [(0, .ref mo)] (Nat.le_of_ble_eq_true rfl) rfl ?_
  intro p e s m below meth c B hr hnm hsz
  have B : gB p l s m ([.ref mo] : List Value).toArray meth c RX6 cX6_taken 1 g (va_A [(mo, cO (dd 0) th), ((dd 0), cD dd di sm)] sz) := B
  refine g_aload_n B 0 0 dX6_taken_0 rfl rfl ?_
  refine g_aload_n B 0 0 dX6_taken_1 rfl rfl ?_
  refine g_get (C := RX6) (T := TX6) (N := 2) B 5 0 1 (.ref (dd 0)) in_X6 rfl q1049 rfl (Nat.le_of_ble_eq_true rfl) (fun _ h9 => h9) rfl dX6_taken_2 ?_
  refine g_get (C := RX7) (T := TX7) (N := 35) B 6 1 14 (.int (di 1)) in_X7 rfl q937 rfl (Nat.le_of_ble_eq_true rfl) (fun _ h9 => h9) rfl dX6_taken_5 ?_
  refine g_cV_i (C := RX6) (T := TX6) (N := 2) (As := [.int (di 1)]) B (m_X6_ok l hst g mo th dd di sm (di 1)) 5 0 rfl rfl [0] [] (lw_V q1224 q1226 qs23 q38 q1227) nvX6_ok rfl rfl (fun _ => rfl) rfl rfl (Nat.le_of_ble_eq_true rfl) dX6_taken_8 ⟨Nat.le_of_ble_eq_true rfl, Nat.le_of_ble_eq_true rfl⟩ ⟨Nat.le_of_ble_eq_true rfl, Nat.le_of_ble_eq_true rfl⟩ (fun r_1 ur_1 hr_1 => ?_)
  refine g_eqw (ws' := [(mo, cO (dd 0) (upd th 0 0)), ((dd 0), cD dd di sm)]) rfl ?_
  have hr_1 : r_1 = (di 1) := hr_1
  subst hr_1
  exact g_iret B hr dX6_taken_11 (Nat.le_of_ble_eq_true rfl) (Nat.le_of_ble_eq_true rfl) () rfl [0, 1] rfl rfl

set_option maxHeartbeats 4000000 in
set_option maxRecDepth 100000 in
theorem m_X6_loudness (l : Launch) (hst : l.stackTraces = false) (g : gG) (mo : Nat) (th : Nat → Int32) (dd : Nat → Nat) (di : Nat → Int32) (sm : Int64) : gMd l yX6_loudness cX6_loudness 1 0 0 0 0 g [(mo, cO (dd 0) th), ((dd 0), cD dd di sm)] [.ref mo] (fun (r : UInt64) (_ : Unit) => r = d_loud di sm) (fun _ : Unit => [(mo, cO (dd 0) (fun _ => 0)), ((dd 0), cD dd di sm)]) := by
  intro sz
  refine g_ent (by decide) hst [(0, .ref mo)] (Nat.le_of_ble_eq_true rfl) rfl ?_
  intro p e s m below meth c B hr hnm hsz
  have B : gB p l s m ([.ref mo] : List Value).toArray meth c RX6 cX6_loudness 1 g (va_A [(mo, cO (dd 0) th), ((dd 0), cD dd di sm)] sz) := B
  refine g_aload_n B 0 0 dX6_loudness_0 rfl rfl ?_
  refine g_iconst (v := 0) B dX6_loudness_1 kc_0 ?_
  refine g_put (C := RX6) (T := TX6) (N := 2) (ty := .int) (v := .int 0) B 5 0 0 [(mo, cO (dd 0) (upd th 0 0)), ((dd 0), cD dd di sm)] in_X6 tyX6 tyX6_ok nmX6 rfl q1048 rfl (Nat.le_of_ble_eq_true rfl) (fun _ h9 => h9) rfl rfl rfl rfl (Nat.le_of_ble_eq_true rfl) rfl dX6_loudness_2 ?_
  refine g_aload_n B 0 0 dX6_loudness_5 rfl rfl ?_
  refine g_get (C := RX6) (T := TX6) (N := 2) B 5 0 1 (.ref (dd 0)) in_X6 rfl q1049 rfl (Nat.le_of_ble_eq_true rfl) (fun _ h9 => h9) rfl dX6_loudness_6 ?_
  refine g_get (C := RX7) (T := TX7) (N := 35) B 6 1 30 (.int (di 13)) in_X7 rfl q968 rfl (Nat.le_of_ble_eq_true rfl) (fun _ h9 => h9) rfl dX6_loudness_9 ?_
  refine g_if_ne (tgt := 19) B dX6_loudness_12 (by decide) (fun c_1 => ?_) (fun c_1 => ?_)
  · skip
    refine g_aload_n B 0 0 dX6_loudness_19 rfl rfl ?_
    refine g_get (C := RX6) (T := TX6) (N := 2) B 5 0 1 (.ref (dd 0)) in_X6 rfl q1049 rfl (Nat.le_of_ble_eq_true rfl) (fun _ h9 => h9) rfl dX6_loudness_20 ?_
    refine g_get (C := RX7) (T := TX7) (N := 35) B 6 1 34 (.long sm) in_X7 rfl q976 rfl (Nat.le_of_ble_eq_true rfl) (fun _ h9 => h9) rfl dX6_loudness_23 ?_
    refine g_l2d B dX6_loudness_26 ?_
    refine g_aload_n B 0 0 dX6_loudness_27 rfl rfl ?_
    refine g_get (C := RX6) (T := TX6) (N := 2) B 5 0 1 (.ref (dd 0)) in_X6 rfl q1049 rfl (Nat.le_of_ble_eq_true rfl) (fun _ h9 => h9) rfl dX6_loudness_28 ?_
    refine g_get (C := RX7) (T := TX7) (N := 35) B 6 1 30 (.int (di 13)) in_X7 rfl q968 rfl (Nat.le_of_ble_eq_true rfl) (fun _ h9 => h9) rfl dX6_loudness_31 ?_
    refine g_i2d B dX6_loudness_34 ?_
    refine g_ddiv B dX6_loudness_35 (vf_q c_1 _) ?_
    exact g_dret B hr dX6_loudness_36 (Nat.le_of_ble_eq_true rfl) (Nat.le_of_ble_eq_true rfl) () (by first | (simp only [d_loud, if_neg c_1]; done) | (simp only [d_loud, if_neg c_1]; rfl) | rfl) [0, 1] rfl (by first | (simp only [d_loud, if_neg c_1]; rfl) | rfl)
  · skip
    refine g_dconst0 B dX6_loudness_15 ?_
    refine g_goto (tgt := 36) B dX6_loudness_16 (by decide) ?_
    exact g_dret B hr dX6_loudness_36 (Nat.le_of_ble_eq_true rfl) (Nat.le_of_ble_eq_true rfl) () (by first | (simp only [d_loud, if_pos c_1]; done) | (simp only [d_loud, if_pos c_1]; rfl) | rfl) [0, 1] rfl (by first | (simp only [d_loud, if_pos c_1]; rfl) | rfl)

set_option maxHeartbeats 4000000 in
set_option maxRecDepth 100000 in
theorem m_X6_reset (l : Launch) (hst : l.stackTraces = false) (g : gG) (mo : Nat) (th : Nat → Int32) (dd : Nat → Nat) (di : Nat → Int32) (sm : Int64) : gMi l yX6_reset cX6_reset 2 .int 0 0 0 0 g [(mo, cO (dd 0) th), ((dd 0), cD dd di sm)] [.ref mo] (fun (r : Int32) (_ : Unit) => r = di 13) (fun _ : Unit => [(mo, cO (dd 0) (fun _ => 0)), ((dd 0), cD dd (d_rst di) 0)]) := by
  intro sz
  refine g_ent (by decide) hst [(0, .ref mo)] (Nat.le_of_ble_eq_true rfl) rfl ?_
  intro p e s m below meth c B hr hnm hsz
  have B : gB p l s m ([.ref mo] : List Value).toArray meth c RX6 cX6_reset 2 g (va_A [(mo, cO (dd 0) th), ((dd 0), cD dd di sm)] sz) := B
  refine g_aload_n B 0 0 dX6_reset_0 rfl rfl ?_
  refine g_iconst (v := 0) B dX6_reset_1 kc_0 ?_
  refine g_put (C := RX6) (T := TX6) (N := 2) (ty := .int) (v := .int 0) B 5 0 0 [(mo, cO (dd 0) (upd th 0 0)), ((dd 0), cD dd di sm)] in_X6 tyX6 tyX6_ok nmX6 rfl q1048 rfl (Nat.le_of_ble_eq_true rfl) (fun _ h9 => h9) rfl rfl rfl rfl (Nat.le_of_ble_eq_true rfl) rfl dX6_reset_2 ?_
  refine g_aload_n B 0 0 dX6_reset_5 rfl rfl ?_
  refine g_get (C := RX6) (T := TX6) (N := 2) B 5 0 1 (.ref (dd 0)) in_X6 rfl q1049 rfl (Nat.le_of_ble_eq_true rfl) (fun _ h9 => h9) rfl dX6_reset_6 ?_
  refine g_get (C := RX7) (T := TX7) (N := 35) B 6 1 30 (.int (di 13)) in_X7 rfl q968 rfl (Nat.le_of_ble_eq_true rfl) (fun _ h9 => h9) rfl dX6_reset_9 ?_
  refine g_istore_n B 1 [(1, .int (di 13)), (0, .ref mo)] dX6_reset_12 rfl (Nat.le_of_ble_eq_true rfl) rfl ?_
  refine g_aload_n B 0 1 dX6_reset_13 rfl rfl ?_
  refine g_get (C := RX6) (T := TX6) (N := 2) B 5 0 1 (.ref (dd 0)) in_X6 rfl q1049 rfl (Nat.le_of_ble_eq_true rfl) (fun _ h9 => h9) rfl dX6_reset_14 ?_
  refine g_iconst (v := 0) B dX6_reset_17 kc_0 ?_
  refine g_put (C := RX7) (T := TX7) (N := 35) (ty := .int) (v := .int 0) B 6 1 30 [(mo, cO (dd 0) (upd th 0 0)), ((dd 0), cD dd (upd di 13 0) sm)] in_X7 tyX7 tyX7_ok nmX7 rfl q968 rfl (Nat.le_of_ble_eq_true rfl) (fun _ h9 => h9) rfl rfl rfl rfl (Nat.le_of_ble_eq_true rfl) rfl dX6_reset_18 ?_
  refine g_aload_n B 0 1 dX6_reset_21 rfl rfl ?_
  refine g_get (C := RX6) (T := TX6) (N := 2) B 5 0 1 (.ref (dd 0)) in_X6 rfl q1049 rfl (Nat.le_of_ble_eq_true rfl) (fun _ h9 => h9) rfl dX6_reset_22 ?_
  refine g_iconst (v := 0) B dX6_reset_25 kc_0 ?_
  refine g_put (C := RX7) (T := TX7) (N := 35) (ty := .int) (v := .int 0) B 6 1 31 [(mo, cO (dd 0) (upd th 0 0)), ((dd 0), cD dd (upd (upd di 13 0) 14 0) sm)] in_X7 tyX7 tyX7_ok nmX7 rfl q970 rfl (Nat.le_of_ble_eq_true rfl) (fun _ h9 => h9) rfl rfl rfl rfl (Nat.le_of_ble_eq_true rfl) rfl dX6_reset_26 ?_
  refine g_aload_n B 0 1 dX6_reset_29 rfl rfl ?_
  refine g_get (C := RX6) (T := TX6) (N := 2) B 5 0 1 (.ref (dd 0)) in_X6 rfl q1049 rfl (Nat.le_of_ble_eq_true rfl) (fun _ h9 => h9) rfl dX6_reset_30 ?_
  refine g_iconst (v := 0) B dX6_reset_33 kc_0 ?_
  refine g_put (C := RX7) (T := TX7) (N := 35) (ty := .int) (v := .int 0) B 6 1 32 [(mo, cO (dd 0) (upd th 0 0)), ((dd 0), cD dd (upd (upd (upd di 13 0) 14 0) 15 0) sm)] in_X7 tyX7 tyX7_ok nmX7 rfl q972 rfl (Nat.le_of_ble_eq_true rfl) (fun _ h9 => h9) rfl rfl rfl rfl (Nat.le_of_ble_eq_true rfl) rfl dX6_reset_34 ?_
  refine g_aload_n B 0 1 dX6_reset_37 rfl rfl ?_
  refine g_get (C := RX6) (T := TX6) (N := 2) B 5 0 1 (.ref (dd 0)) in_X6 rfl q1049 rfl (Nat.le_of_ble_eq_true rfl) (fun _ h9 => h9) rfl dX6_reset_38 ?_
  refine g_iconst (v := 0) B dX6_reset_41 kc_0 ?_
  refine g_put (C := RX7) (T := TX7) (N := 35) (ty := .int) (v := .int 0) B 6 1 33 [(mo, cO (dd 0) (upd th 0 0)), ((dd 0), cD dd (upd (upd (upd (upd di 13 0) 14 0) 15 0) 16 0) sm)] in_X7 tyX7 tyX7_ok nmX7 rfl q974 rfl (Nat.le_of_ble_eq_true rfl) (fun _ h9 => h9) rfl rfl rfl rfl (Nat.le_of_ble_eq_true rfl) rfl dX6_reset_42 ?_
  refine g_aload_n B 0 1 dX6_reset_45 rfl rfl ?_
  refine g_get (C := RX6) (T := TX6) (N := 2) B 5 0 1 (.ref (dd 0)) in_X6 rfl q1049 rfl (Nat.le_of_ble_eq_true rfl) (fun _ h9 => h9) rfl dX6_reset_46 ?_
  refine g_lconst (v := 0) B dX6_reset_49 kl_0 ?_
  refine g_put (C := RX7) (T := TX7) (N := 35) (ty := .long) (v := .long 0) B 6 1 34 [(mo, cO (dd 0) (upd th 0 0)), ((dd 0), cD dd (upd (upd (upd (upd di 13 0) 14 0) 15 0) 16 0) 0)] in_X7 tyX7 tyX7_ok nmX7 rfl q976 rfl (Nat.le_of_ble_eq_true rfl) (fun _ h9 => h9) rfl rfl rfl rfl (Nat.le_of_ble_eq_true rfl) rfl dX6_reset_50 ?_
  refine g_iload_n B 1 0 dX6_reset_53 rfl rfl ?_
  exact g_iret B hr dX6_reset_54 (Nat.le_of_ble_eq_true rfl) (Nat.le_of_ble_eq_true rfl) () rfl [0, 1] rfl rfl

set_option maxHeartbeats 4000000 in
set_option maxRecDepth 100000 in
theorem m_X6_sounding (l : Launch) (hst : l.stackTraces = false) (g : gG) (mo : Nat) (th : Nat → Int32) (dd : Nat → Nat) (di : Nat → Int32) (sm : Int64) (da : Nat → Nat → Int32) : gMi l yX6_sounding cX6_sounding 1 .int 1 22 0 0 g [(mo, cO (dd 0) th), ((dd 0), cD dd di sm), ((dd 3), .inl (g.2.1, 4, .inl (da 3)))] [.ref mo] (fun (r : Int32) (_ : Unit) => r = d_snd (da 3)) (fun _ : Unit => [(mo, cO (dd 0) (fun _ => 0)), ((dd 0), cD dd di sm), ((dd 3), .inl (g.2.1, 4, .inl (da 3)))]) := by
  intro sz
  refine g_ent (by decide) hst [(0, .ref mo)] (Nat.le_of_ble_eq_true rfl) rfl ?_
  intro p e s m below meth c B hr hnm hsz
  have B : gB p l s m ([.ref mo] : List Value).toArray meth c RX6 cX6_sounding 1 g (va_A [(mo, cO (dd 0) th), ((dd 0), cD dd di sm), ((dd 3), .inl (g.2.1, 4, .inl (da 3)))] sz) := B
  refine g_aload_n B 0 0 dX6_sounding_0 rfl rfl ?_
  refine g_aload_n B 0 0 dX6_sounding_1 rfl rfl ?_
  refine g_get (C := RX6) (T := TX6) (N := 2) B 5 0 1 (.ref (dd 0)) in_X6 rfl q1049 rfl (Nat.le_of_ble_eq_true rfl) (fun _ h9 => h9) rfl dX6_sounding_2 ?_
  refine g_cuV_i (C := RX7) (T := TX7) (N := 35) (As := []) B (m_X7_sounding l hst g dd di sm (da 3)) 6 0 rfl rfl [1, 2] [.ref mo] (lw_V q1153 q1154 q1155 q39 q1156) nvX7_sounding rfl rfl rfl rfl (Nat.le_of_ble_eq_true rfl) dX6_sounding_5 ⟨Nat.le_of_ble_eq_true rfl, Nat.le_of_ble_eq_true rfl⟩ ⟨Nat.le_of_ble_eq_true rfl, Nat.le_of_ble_eq_true rfl⟩ (fun r_1 ur_1 hr_1 => ?_)
  have hr_1 : r_1 = d_snd (da 3) := hr_1
  refine g_cV_i (C := RX6) (T := TX6) (N := 2) (As := [.int r_1]) B (m_X6_ok l hst g mo th dd di sm r_1) 5 0 rfl rfl [0] [] (lw_V q1224 q1226 qs23 q38 q1227) nvX6_ok rfl rfl (fun _ => rfl) rfl rfl (Nat.le_of_ble_eq_true rfl) dX6_sounding_8 ⟨Nat.le_of_ble_eq_true rfl, Nat.le_of_ble_eq_true rfl⟩ ⟨Nat.le_of_ble_eq_true rfl, Nat.le_of_ble_eq_true rfl⟩ (fun r_2 ur_2 hr_2 => ?_)
  refine g_eqw (ws' := [(mo, cO (dd 0) (upd th 0 0)), ((dd 0), cD dd di sm), ((dd 3), .inl (g.2.1, 4, .inl (da 3)))]) rfl ?_
  have hr_2 : r_2 = r_1 := hr_2
  subst hr_1
  subst hr_2
  exact g_iret B hr dX6_sounding_11 (Nat.le_of_ble_eq_true rfl) (Nat.le_of_ble_eq_true rfl) () rfl [0, 1, 2] rfl rfl

set_option maxHeartbeats 4000000 in
set_option maxRecDepth 100000 in
theorem m_X6_isPlaying (l : Launch) (hst : l.stackTraces = false) (g : gG) (mo : Nat) (th : Nat → Int32) (dd : Nat → Nat) (di : Nat → Int32) (sm : Int64) (hp : di 8 = 0 ∨ di 8 = 1) : gMi l yX6_isPlaying cX6_isPlaying 1 .boolean 0 0 0 0 g [(mo, cO (dd 0) th), ((dd 0), cD dd di sm)] [.ref mo] (fun (r : Int32) (_ : Unit) => r = di 8) (fun _ : Unit => [(mo, cO (dd 0) (fun _ => 0)), ((dd 0), cD dd di sm)]) := by
  intro sz
  refine g_ent (by decide) hst [(0, .ref mo)] (Nat.le_of_ble_eq_true rfl) rfl ?_
  intro p e s m below meth c B hr hnm hsz
  have B : gB p l s m ([.ref mo] : List Value).toArray meth c RX6 cX6_isPlaying 1 g (va_A [(mo, cO (dd 0) th), ((dd 0), cD dd di sm)] sz) := B
  refine g_aload_n B 0 0 dX6_isPlaying_0 rfl rfl ?_
  refine g_iconst (v := 0) B dX6_isPlaying_1 kc_0 ?_
  refine g_put (C := RX6) (T := TX6) (N := 2) (ty := .int) (v := .int 0) B 5 0 0 [(mo, cO (dd 0) (upd th 0 0)), ((dd 0), cD dd di sm)] in_X6 tyX6 tyX6_ok nmX6 rfl q1048 rfl (Nat.le_of_ble_eq_true rfl) (fun _ h9 => h9) rfl rfl rfl rfl (Nat.le_of_ble_eq_true rfl) rfl dX6_isPlaying_2 ?_
  refine g_aload_n B 0 0 dX6_isPlaying_5 rfl rfl ?_
  refine g_get (C := RX6) (T := TX6) (N := 2) B 5 0 1 (.ref (dd 0)) in_X6 rfl q1049 rfl (Nat.le_of_ble_eq_true rfl) (fun _ h9 => h9) rfl dX6_isPlaying_6 ?_
  refine g_get (C := RX7) (T := TX7) (N := 35) B 6 1 24 (.int (di 8)) in_X7 rfl q957 rfl (Nat.le_of_ble_eq_true rfl) (fun _ h9 => h9) rfl dX6_isPlaying_9 ?_
  exact g_zret B hr (zb_n hp) dX6_isPlaying_12 (Nat.le_of_ble_eq_true rfl) (Nat.le_of_ble_eq_true rfl) () rfl [0, 1] rfl rfl

set_option maxHeartbeats 4000000 in
set_option maxRecDepth 100000 in
theorem m_X6_step (l : Launch) (hst : l.stackTraces = false) (g : gG) (mo : Nat) (th : Nat → Int32) (dd : Nat → Nat) (di : Nat → Int32) (sm : Int64) : gMi l yX6_step cX6_step 1 .int 1 21 0 0 g [(mo, cO (dd 0) th), ((dd 0), cD dd di sm)] [.ref mo] (fun (r : Int32) (_ : Unit) => r = d_step di) (fun _ : Unit => [(mo, cO (dd 0) (fun _ => 0)), ((dd 0), cD dd di sm)]) := by
  intro sz
  refine g_ent (by decide) hst [(0, .ref mo)] (Nat.le_of_ble_eq_true rfl) rfl ?_
  intro p e s m below meth c B hr hnm hsz
  have B : gB p l s m ([.ref mo] : List Value).toArray meth c RX6 cX6_step 1 g (va_A [(mo, cO (dd 0) th), ((dd 0), cD dd di sm)] sz) := B
  refine g_aload_n B 0 0 dX6_step_0 rfl rfl ?_
  refine g_aload_n B 0 0 dX6_step_1 rfl rfl ?_
  refine g_cuV_i (C := RX6) (T := TX6) (N := 2) (As := []) B (m_X6_stepNow l hst g mo th dd di sm) 5 0 rfl rfl [0, 1] [.ref mo] (lw_V q1180 q1182 qs18 q38 q1183) nvX6_stepNow rfl rfl rfl rfl (Nat.le_of_ble_eq_true rfl) dX6_step_2 ⟨Nat.le_of_ble_eq_true rfl, Nat.le_of_ble_eq_true rfl⟩ ⟨Nat.le_of_ble_eq_true rfl, Nat.le_of_ble_eq_true rfl⟩ (fun r_1 ur_1 hr_1 => ?_)
  have hr_1 : r_1 = d_step di := hr_1
  refine g_cV_i (C := RX6) (T := TX6) (N := 2) (As := [.int r_1]) B (m_X6_ok l hst g mo th dd di sm r_1) 5 0 rfl rfl [0] [] (lw_V q1224 q1226 qs23 q38 q1227) nvX6_ok rfl rfl (fun _ => rfl) rfl rfl (Nat.le_of_ble_eq_true rfl) dX6_step_5 ⟨Nat.le_of_ble_eq_true rfl, Nat.le_of_ble_eq_true rfl⟩ ⟨Nat.le_of_ble_eq_true rfl, Nat.le_of_ble_eq_true rfl⟩ (fun r_2 ur_2 hr_2 => ?_)
  refine g_eqw (ws' := [(mo, cO (dd 0) (upd th 0 0)), ((dd 0), cD dd di sm)]) rfl ?_
  have hr_2 : r_2 = r_1 := hr_2
  subst hr_1
  subst hr_2
  exact g_iret B hr dX6_step_8 (Nat.le_of_ble_eq_true rfl) (Nat.le_of_ble_eq_true rfl) () rfl [0, 1] rfl rfl

set_option maxHeartbeats 4000000 in
set_option maxRecDepth 100000 in
theorem m_X6_nextVoice (l : Launch) (hst : l.stackTraces = false) (g : gG) (mo : Nat) (th : Nat → Int32) (dd : Nat → Nat) (di : Nat → Int32) (sm : Int64) (da : Nat → Nat → Int32) : gMi l yX6_nextVoice cX6_nextVoice 1 .int 1 22 0 0 g [(mo, cO (dd 0) th), ((dd 0), cD dd di sm), ((dd 3), .inl (g.2.1, 4, .inl (da 3))), ((dd 4), .inl (g.2.1, 4, .inl (da 4))), ((dd 13), .inl (g.2.1, 4, .inl (da 13)))] [.ref mo] (fun (r : Int32) (_ : Unit) => r = nI (d_nxn (da 3) (da 4) (da 13))) (fun _ : Unit => [(mo, cO (dd 0) (fun _ => 0)), ((dd 0), cD dd di sm), ((dd 3), .inl (g.2.1, 4, .inl (da 3))), ((dd 4), .inl (g.2.1, 4, .inl (da 4))), ((dd 13), .inl (g.2.1, 4, .inl (da 13)))]) := by
  intro sz
  refine g_ent (by decide) hst [(0, .ref mo)] (Nat.le_of_ble_eq_true rfl) rfl ?_
  intro p e s m below meth c B hr hnm hsz
  have B : gB p l s m ([.ref mo] : List Value).toArray meth c RX6 cX6_nextVoice 1 g (va_A [(mo, cO (dd 0) th), ((dd 0), cD dd di sm), ((dd 3), .inl (g.2.1, 4, .inl (da 3))), ((dd 4), .inl (g.2.1, 4, .inl (da 4))), ((dd 13), .inl (g.2.1, 4, .inl (da 13)))] sz) := B
  refine g_aload_n B 0 0 dX6_nextVoice_0 rfl rfl ?_
  refine g_aload_n B 0 0 dX6_nextVoice_1 rfl rfl ?_
  refine g_get (C := RX6) (T := TX6) (N := 2) B 5 0 1 (.ref (dd 0)) in_X6 rfl q1049 rfl (Nat.le_of_ble_eq_true rfl) (fun _ h9 => h9) rfl dX6_nextVoice_2 ?_
  refine g_cuV_i (C := RX7) (T := TX7) (N := 35) (As := []) B (m_X7_nextVoice l hst g dd di sm (da 3) (da 4) (da 13)) 6 0 rfl rfl [1, 2, 3, 4] [.ref mo] (lw_V q1314 q1134 q1135 q39 q1136) nvX7_nextVoice rfl rfl rfl rfl (Nat.le_of_ble_eq_true rfl) dX6_nextVoice_5 ⟨Nat.le_of_ble_eq_true rfl, Nat.le_of_ble_eq_true rfl⟩ ⟨Nat.le_of_ble_eq_true rfl, Nat.le_of_ble_eq_true rfl⟩ (fun r_1 ur_1 hr_1 => ?_)
  obtain rfl : nI ur_1 = r_1 := hr_1.1.symm
  have hur_1 := hr_1.2
  have hlr_1 : ur_1 < 4 := by rw [hur_1]; exact d_nxn_lt _ _ _
  refine g_cV_i (C := RX6) (T := TX6) (N := 2) (As := [.int (nI ur_1)]) B (m_X6_ok l hst g mo th dd di sm (nI ur_1)) 5 0 rfl rfl [0] [] (lw_V q1224 q1226 qs23 q38 q1227) nvX6_ok rfl rfl (fun _ => rfl) rfl rfl (Nat.le_of_ble_eq_true rfl) dX6_nextVoice_8 ⟨Nat.le_of_ble_eq_true rfl, Nat.le_of_ble_eq_true rfl⟩ ⟨Nat.le_of_ble_eq_true rfl, Nat.le_of_ble_eq_true rfl⟩ (fun r_2 ur_2 hr_2 => ?_)
  refine g_eqw (ws' := [(mo, cO (dd 0) (upd th 0 0)), ((dd 0), cD dd di sm), ((dd 3), .inl (g.2.1, 4, .inl (da 3))), ((dd 4), .inl (g.2.1, 4, .inl (da 4))), ((dd 13), .inl (g.2.1, 4, .inl (da 13)))]) rfl ?_
  have hr_2 : r_2 = (nI ur_1) := hr_2
  subst hur_1
  subst hr_2
  exact g_iret B hr dX6_nextVoice_11 (Nat.le_of_ble_eq_true rfl) (Nat.le_of_ble_eq_true rfl) () rfl [0, 1, 2, 3, 4] rfl rfl

set_option maxHeartbeats 4000000 in
set_option maxRecDepth 100000 in
theorem m_X6_voiceNow (l : Launch) (hst : l.stackTraces = false) (g : gG) (mo : Nat) (th : Nat → Int32) (dd : Nat → Nat) (di : Nat → Int32) (sm : Int64) (da : Nat → Nat → Int32) (v : Nat) (wh : Int32) (hv : v < 4) : gMi l yX6_voiceNow cX6_voiceNow 3 .int 0 0 0 0 g [(mo, cO (dd 0) th), ((dd 0), cD dd di sm), ((dd 3), .inl (g.2.1, 4, .inl (da 3))), ((dd 4), .inl (g.2.1, 4, .inl (da 4))), ((dd 5), .inl (g.2.1, 4, .inl (da 5))), ((dd 6), .inl (g.2.1, 4, .inl (da 6))), ((dd 7), .inl (g.2.1, 4, .inl (da 7))), ((dd 8), .inl (g.2.1, 4, .inl (da 8))), ((dd 9), .inl (g.2.1, 4, .inl (da 9))), ((dd 10), .inl (g.2.1, 4, .inl (da 10))), ((dd 11), .inl (g.2.1, 4, .inl (da 11))), ((dd 12), .inl (g.2.1, 4, .inl (da 12)))] [.ref mo, .int (nI v), .int wh] (fun (r : Int32) (_ : Unit) => r = d_tv da v wh) (fun _ : Unit => [(mo, cO (dd 0) th), ((dd 0), cD dd di sm), ((dd 3), .inl (g.2.1, 4, .inl (da 3))), ((dd 4), .inl (g.2.1, 4, .inl (da 4))), ((dd 5), .inl (g.2.1, 4, .inl (da 5))), ((dd 6), .inl (g.2.1, 4, .inl (da 6))), ((dd 7), .inl (g.2.1, 4, .inl (da 7))), ((dd 8), .inl (g.2.1, 4, .inl (da 8))), ((dd 9), .inl (g.2.1, 4, .inl (da 9))), ((dd 10), .inl (g.2.1, 4, .inl (da 10))), ((dd 11), .inl (g.2.1, 4, .inl (da 11))), ((dd 12), .inl (g.2.1, 4, .inl (da 12)))]) := by
  intro sz
  refine g_ent (by decide) hst [(0, .ref mo), (1, .int (nI v)), (2, .int wh)] (Nat.le_of_ble_eq_true rfl) rfl ?_
  intro p e s m below meth c B hr hnm hsz
  have B : gB p l s m ([.ref mo, .int (nI v), .int wh] : List Value).toArray meth c RX6 cX6_voiceNow 3 g (va_A [(mo, cO (dd 0) th), ((dd 0), cD dd di sm), ((dd 3), .inl (g.2.1, 4, .inl (da 3))), ((dd 4), .inl (g.2.1, 4, .inl (da 4))), ((dd 5), .inl (g.2.1, 4, .inl (da 5))), ((dd 6), .inl (g.2.1, 4, .inl (da 6))), ((dd 7), .inl (g.2.1, 4, .inl (da 7))), ((dd 8), .inl (g.2.1, 4, .inl (da 8))), ((dd 9), .inl (g.2.1, 4, .inl (da 9))), ((dd 10), .inl (g.2.1, 4, .inl (da 10))), ((dd 11), .inl (g.2.1, 4, .inl (da 11))), ((dd 12), .inl (g.2.1, 4, .inl (da 12)))] sz) := B
  refine g_iload_n B 2 2 dX6_voiceNow_0 rfl rfl ?_
  by_cases c_1 : wh = 0
  · skip
    refine g_tabIn (off := 51) (tgt := 52) B dX6_voiceNow_1 (by rw [c_1]; decide) (by rw [c_1]; decide) (by rw [c_1]; decide) (by decide) ?_
    refine g_aload_n B 0 0 dX6_voiceNow_52 rfl rfl ?_
    refine g_get (C := RX6) (T := TX6) (N := 2) B 5 0 1 (.ref (dd 0)) in_X6 rfl q1049 rfl (Nat.le_of_ble_eq_true rfl) (fun _ h9 => h9) rfl dX6_voiceNow_53 ?_
    refine g_get (C := RX7) (T := TX7) (N := 35) B 6 1 2 (.ref (dd 3)) in_X7 rfl q915 rfl (Nat.le_of_ble_eq_true rfl) (fun _ h9 => h9) rfl dX6_voiceNow_56 ?_
    refine g_iload_n B 1 1 dX6_voiceNow_59 rfl rfl ?_
    refine g_iald B 2 v rfl (nI_clamp (by omega)) (vp_in_nI (by omega) (by omega)) dX6_voiceNow_60 ?_
    exact g_iret B hr dX6_voiceNow_61 (Nat.le_of_ble_eq_true rfl) (Nat.le_of_ble_eq_true rfl) () (by first | (simp only [d_tv, if_pos c_1]; done) | (simp only [d_tv, if_pos c_1]; rfl) | rfl) [0, 1, 2, 3, 4, 5, 6, 7, 8, 9, 10, 11] rfl rfl
  by_cases c_2 : wh = 1
  · skip
    refine g_tabIn (off := 61) (tgt := 62) B dX6_voiceNow_1 (by rw [c_2]; decide) (by rw [c_2]; decide) (by rw [c_2]; decide) (by decide) ?_
    refine g_aload_n B 0 0 dX6_voiceNow_62 rfl rfl ?_
    refine g_get (C := RX6) (T := TX6) (N := 2) B 5 0 1 (.ref (dd 0)) in_X6 rfl q1049 rfl (Nat.le_of_ble_eq_true rfl) (fun _ h9 => h9) rfl dX6_voiceNow_63 ?_
    refine g_get (C := RX7) (T := TX7) (N := 35) B 6 1 3 (.ref (dd 4)) in_X7 rfl q917 rfl (Nat.le_of_ble_eq_true rfl) (fun _ h9 => h9) rfl dX6_voiceNow_66 ?_
    refine g_iload_n B 1 1 dX6_voiceNow_69 rfl rfl ?_
    refine g_iald B 3 v rfl (nI_clamp (by omega)) (vp_in_nI (by omega) (by omega)) dX6_voiceNow_70 ?_
    exact g_iret B hr dX6_voiceNow_71 (Nat.le_of_ble_eq_true rfl) (Nat.le_of_ble_eq_true rfl) () (by first | (simp only [d_tv, if_neg c_1, if_pos c_2]; done) | (simp only [d_tv, if_neg c_1, if_pos c_2]; rfl) | rfl) [0, 1, 2, 3, 4, 5, 6, 7, 8, 9, 10, 11] rfl rfl
  by_cases c_3 : wh = 2
  · skip
    refine g_tabIn (off := 71) (tgt := 72) B dX6_voiceNow_1 (by rw [c_3]; decide) (by rw [c_3]; decide) (by rw [c_3]; decide) (by decide) ?_
    refine g_aload_n B 0 0 dX6_voiceNow_72 rfl rfl ?_
    refine g_get (C := RX6) (T := TX6) (N := 2) B 5 0 1 (.ref (dd 0)) in_X6 rfl q1049 rfl (Nat.le_of_ble_eq_true rfl) (fun _ h9 => h9) rfl dX6_voiceNow_73 ?_
    refine g_get (C := RX7) (T := TX7) (N := 35) B 6 1 4 (.ref (dd 5)) in_X7 rfl q919 rfl (Nat.le_of_ble_eq_true rfl) (fun _ h9 => h9) rfl dX6_voiceNow_76 ?_
    refine g_iload_n B 1 1 dX6_voiceNow_79 rfl rfl ?_
    refine g_iald B 4 v rfl (nI_clamp (by omega)) (vp_in_nI (by omega) (by omega)) dX6_voiceNow_80 ?_
    exact g_iret B hr dX6_voiceNow_81 (Nat.le_of_ble_eq_true rfl) (Nat.le_of_ble_eq_true rfl) () (by first | (simp only [d_tv, if_neg c_1, if_neg c_2, if_pos c_3]; done) | (simp only [d_tv, if_neg c_1, if_neg c_2, if_pos c_3]; rfl) | rfl) [0, 1, 2, 3, 4, 5, 6, 7, 8, 9, 10, 11] rfl rfl
  by_cases c_4 : wh = 3
  · skip
    refine g_tabIn (off := 81) (tgt := 82) B dX6_voiceNow_1 (by rw [c_4]; decide) (by rw [c_4]; decide) (by rw [c_4]; decide) (by decide) ?_
    refine g_aload_n B 0 0 dX6_voiceNow_82 rfl rfl ?_
    refine g_get (C := RX6) (T := TX6) (N := 2) B 5 0 1 (.ref (dd 0)) in_X6 rfl q1049 rfl (Nat.le_of_ble_eq_true rfl) (fun _ h9 => h9) rfl dX6_voiceNow_83 ?_
    refine g_get (C := RX7) (T := TX7) (N := 35) B 6 1 5 (.ref (dd 6)) in_X7 rfl q921 rfl (Nat.le_of_ble_eq_true rfl) (fun _ h9 => h9) rfl dX6_voiceNow_86 ?_
    refine g_iload_n B 1 1 dX6_voiceNow_89 rfl rfl ?_
    refine g_iald B 5 v rfl (nI_clamp (by omega)) (vp_in_nI (by omega) (by omega)) dX6_voiceNow_90 ?_
    exact g_iret B hr dX6_voiceNow_91 (Nat.le_of_ble_eq_true rfl) (Nat.le_of_ble_eq_true rfl) () (by first | (simp only [d_tv, if_neg c_1, if_neg c_2, if_neg c_3, if_pos c_4]; done) | (simp only [d_tv, if_neg c_1, if_neg c_2, if_neg c_3, if_pos c_4]; rfl) | rfl) [0, 1, 2, 3, 4, 5, 6, 7, 8, 9, 10, 11] rfl rfl
  by_cases c_5 : wh = 4
  · skip
    refine g_tabIn (off := 91) (tgt := 92) B dX6_voiceNow_1 (by rw [c_5]; decide) (by rw [c_5]; decide) (by rw [c_5]; decide) (by decide) ?_
    refine g_aload_n B 0 0 dX6_voiceNow_92 rfl rfl ?_
    refine g_get (C := RX6) (T := TX6) (N := 2) B 5 0 1 (.ref (dd 0)) in_X6 rfl q1049 rfl (Nat.le_of_ble_eq_true rfl) (fun _ h9 => h9) rfl dX6_voiceNow_93 ?_
    refine g_get (C := RX7) (T := TX7) (N := 35) B 6 1 6 (.ref (dd 7)) in_X7 rfl q923 rfl (Nat.le_of_ble_eq_true rfl) (fun _ h9 => h9) rfl dX6_voiceNow_96 ?_
    refine g_iload_n B 1 1 dX6_voiceNow_99 rfl rfl ?_
    refine g_iald B 6 v rfl (nI_clamp (by omega)) (vp_in_nI (by omega) (by omega)) dX6_voiceNow_100 ?_
    exact g_iret B hr dX6_voiceNow_101 (Nat.le_of_ble_eq_true rfl) (Nat.le_of_ble_eq_true rfl) () (by first | (simp only [d_tv, if_neg c_1, if_neg c_2, if_neg c_3, if_neg c_4, if_pos c_5]; done) | (simp only [d_tv, if_neg c_1, if_neg c_2, if_neg c_3, if_neg c_4, if_pos c_5]; rfl) | rfl) [0, 1, 2, 3, 4, 5, 6, 7, 8, 9, 10, 11] rfl rfl
  by_cases c_6 : wh = 5
  · skip
    refine g_tabIn (off := 101) (tgt := 102) B dX6_voiceNow_1 (by rw [c_6]; decide) (by rw [c_6]; decide) (by rw [c_6]; decide) (by decide) ?_
    refine g_aload_n B 0 0 dX6_voiceNow_102 rfl rfl ?_
    refine g_get (C := RX6) (T := TX6) (N := 2) B 5 0 1 (.ref (dd 0)) in_X6 rfl q1049 rfl (Nat.le_of_ble_eq_true rfl) (fun _ h9 => h9) rfl dX6_voiceNow_103 ?_
    refine g_get (C := RX7) (T := TX7) (N := 35) B 6 1 7 (.ref (dd 8)) in_X7 rfl q925 rfl (Nat.le_of_ble_eq_true rfl) (fun _ h9 => h9) rfl dX6_voiceNow_106 ?_
    refine g_iload_n B 1 1 dX6_voiceNow_109 rfl rfl ?_
    refine g_iald B 7 v rfl (nI_clamp (by omega)) (vp_in_nI (by omega) (by omega)) dX6_voiceNow_110 ?_
    exact g_iret B hr dX6_voiceNow_111 (Nat.le_of_ble_eq_true rfl) (Nat.le_of_ble_eq_true rfl) () (by first | (simp only [d_tv, if_neg c_1, if_neg c_2, if_neg c_3, if_neg c_4, if_neg c_5, if_pos c_6]; done) | (simp only [d_tv, if_neg c_1, if_neg c_2, if_neg c_3, if_neg c_4, if_neg c_5, if_pos c_6]; rfl) | rfl) [0, 1, 2, 3, 4, 5, 6, 7, 8, 9, 10, 11] rfl rfl
  by_cases c_7 : wh = 6
  · skip
    refine g_tabIn (off := 111) (tgt := 112) B dX6_voiceNow_1 (by rw [c_7]; decide) (by rw [c_7]; decide) (by rw [c_7]; decide) (by decide) ?_
    refine g_aload_n B 0 0 dX6_voiceNow_112 rfl rfl ?_
    refine g_get (C := RX6) (T := TX6) (N := 2) B 5 0 1 (.ref (dd 0)) in_X6 rfl q1049 rfl (Nat.le_of_ble_eq_true rfl) (fun _ h9 => h9) rfl dX6_voiceNow_113 ?_
    refine g_get (C := RX7) (T := TX7) (N := 35) B 6 1 8 (.ref (dd 9)) in_X7 rfl q927 rfl (Nat.le_of_ble_eq_true rfl) (fun _ h9 => h9) rfl dX6_voiceNow_116 ?_
    refine g_iload_n B 1 1 dX6_voiceNow_119 rfl rfl ?_
    refine g_iald B 8 v rfl (nI_clamp (by omega)) (vp_in_nI (by omega) (by omega)) dX6_voiceNow_120 ?_
    exact g_iret B hr dX6_voiceNow_121 (Nat.le_of_ble_eq_true rfl) (Nat.le_of_ble_eq_true rfl) () (by first | (simp only [d_tv, if_neg c_1, if_neg c_2, if_neg c_3, if_neg c_4, if_neg c_5, if_neg c_6, if_pos c_7]; done) | (simp only [d_tv, if_neg c_1, if_neg c_2, if_neg c_3, if_neg c_4, if_neg c_5, if_neg c_6, if_pos c_7]; rfl) | rfl) [0, 1, 2, 3, 4, 5, 6, 7, 8, 9, 10, 11] rfl rfl
  by_cases c_8 : wh = 7
  · skip
    refine g_tabIn (off := 121) (tgt := 122) B dX6_voiceNow_1 (by rw [c_8]; decide) (by rw [c_8]; decide) (by rw [c_8]; decide) (by decide) ?_
    refine g_aload_n B 0 0 dX6_voiceNow_122 rfl rfl ?_
    refine g_get (C := RX6) (T := TX6) (N := 2) B 5 0 1 (.ref (dd 0)) in_X6 rfl q1049 rfl (Nat.le_of_ble_eq_true rfl) (fun _ h9 => h9) rfl dX6_voiceNow_123 ?_
    refine g_get (C := RX7) (T := TX7) (N := 35) B 6 1 9 (.ref (dd 10)) in_X7 rfl q929 rfl (Nat.le_of_ble_eq_true rfl) (fun _ h9 => h9) rfl dX6_voiceNow_126 ?_
    refine g_iload_n B 1 1 dX6_voiceNow_129 rfl rfl ?_
    refine g_iald B 9 v rfl (nI_clamp (by omega)) (vp_in_nI (by omega) (by omega)) dX6_voiceNow_130 ?_
    exact g_iret B hr dX6_voiceNow_131 (Nat.le_of_ble_eq_true rfl) (Nat.le_of_ble_eq_true rfl) () (by first | (simp only [d_tv, if_neg c_1, if_neg c_2, if_neg c_3, if_neg c_4, if_neg c_5, if_neg c_6, if_neg c_7, if_pos c_8]; done) | (simp only [d_tv, if_neg c_1, if_neg c_2, if_neg c_3, if_neg c_4, if_neg c_5, if_neg c_6, if_neg c_7, if_pos c_8]; rfl) | rfl) [0, 1, 2, 3, 4, 5, 6, 7, 8, 9, 10, 11] rfl rfl
  by_cases c_9 : wh = 8
  · skip
    refine g_tabIn (off := 131) (tgt := 132) B dX6_voiceNow_1 (by rw [c_9]; decide) (by rw [c_9]; decide) (by rw [c_9]; decide) (by decide) ?_
    refine g_aload_n B 0 0 dX6_voiceNow_132 rfl rfl ?_
    refine g_get (C := RX6) (T := TX6) (N := 2) B 5 0 1 (.ref (dd 0)) in_X6 rfl q1049 rfl (Nat.le_of_ble_eq_true rfl) (fun _ h9 => h9) rfl dX6_voiceNow_133 ?_
    refine g_get (C := RX7) (T := TX7) (N := 35) B 6 1 10 (.ref (dd 11)) in_X7 rfl q931 rfl (Nat.le_of_ble_eq_true rfl) (fun _ h9 => h9) rfl dX6_voiceNow_136 ?_
    refine g_iload_n B 1 1 dX6_voiceNow_139 rfl rfl ?_
    refine g_iald B 10 v rfl (nI_clamp (by omega)) (vp_in_nI (by omega) (by omega)) dX6_voiceNow_140 ?_
    exact g_iret B hr dX6_voiceNow_141 (Nat.le_of_ble_eq_true rfl) (Nat.le_of_ble_eq_true rfl) () (by first | (simp only [d_tv, if_neg c_1, if_neg c_2, if_neg c_3, if_neg c_4, if_neg c_5, if_neg c_6, if_neg c_7, if_neg c_8, if_pos c_9]; done) | (simp only [d_tv, if_neg c_1, if_neg c_2, if_neg c_3, if_neg c_4, if_neg c_5, if_neg c_6, if_neg c_7, if_neg c_8, if_pos c_9]; rfl) | rfl) [0, 1, 2, 3, 4, 5, 6, 7, 8, 9, 10, 11] rfl rfl
  refine g_tabOut (tgt := 142) B dX6_voiceNow_1 (by have nc_1 := ine c_1; have nc_2 := ine c_2; have nc_3 := ine c_3; have nc_4 := ine c_4; have nc_5 := ine c_5; have nc_6 := ine c_6; have nc_7 := ine c_7; have nc_8 := ine c_8; have nc_9 := ine c_9; simp only [it_0, it_1, it_2, it_3, it_4, it_5, it_6, it_7, it_8] at nc_1 nc_2 nc_3 nc_4 nc_5 nc_6 nc_7 nc_8 nc_9; omega) (by decide) ?_
  refine g_aload_n B 0 0 dX6_voiceNow_142 rfl rfl ?_
  refine g_get (C := RX6) (T := TX6) (N := 2) B 5 0 1 (.ref (dd 0)) in_X6 rfl q1049 rfl (Nat.le_of_ble_eq_true rfl) (fun _ h9 => h9) rfl dX6_voiceNow_143 ?_
  refine g_get (C := RX7) (T := TX7) (N := 35) B 6 1 11 (.ref (dd 12)) in_X7 rfl q933 rfl (Nat.le_of_ble_eq_true rfl) (fun _ h9 => h9) rfl dX6_voiceNow_146 ?_
  refine g_iload_n B 1 1 dX6_voiceNow_149 rfl rfl ?_
  refine g_iald B 11 v rfl (nI_clamp (by omega)) (vp_in_nI (by omega) (by omega)) dX6_voiceNow_150 ?_
  exact g_iret B hr dX6_voiceNow_151 (Nat.le_of_ble_eq_true rfl) (Nat.le_of_ble_eq_true rfl) () (by first | (simp only [d_tv, if_neg c_1, if_neg c_2, if_neg c_3, if_neg c_4, if_neg c_5, if_neg c_6, if_neg c_7, if_neg c_8, if_neg c_9]; done) | (simp only [d_tv, if_neg c_1, if_neg c_2, if_neg c_3, if_neg c_4, if_neg c_5, if_neg c_6, if_neg c_7, if_neg c_8, if_neg c_9]; rfl) | rfl) [0, 1, 2, 3, 4, 5, 6, 7, 8, 9, 10, 11] rfl rfl

set_option maxHeartbeats 4000000 in
set_option maxRecDepth 100000 in
theorem m_X6_ofVoice (l : Launch) (hst : l.stackTraces = false) (g : gG) (mo : Nat) (th : Nat → Int32) (dd : Nat → Nat) (di : Nat → Int32) (sm : Int64) (da : Nat → Nat → Int32) (i wh : Int32) : gMi l yX6_ofVoice cX6_ofVoice 3 .int 2 42 0 0 g [(mo, cO (dd 0) th), ((dd 0), cD dd di sm), ((dd 3), .inl (g.2.1, 4, .inl (da 3))), ((dd 4), .inl (g.2.1, 4, .inl (da 4))), ((dd 5), .inl (g.2.1, 4, .inl (da 5))), ((dd 6), .inl (g.2.1, 4, .inl (da 6))), ((dd 7), .inl (g.2.1, 4, .inl (da 7))), ((dd 8), .inl (g.2.1, 4, .inl (da 8))), ((dd 9), .inl (g.2.1, 4, .inl (da 9))), ((dd 10), .inl (g.2.1, 4, .inl (da 10))), ((dd 11), .inl (g.2.1, 4, .inl (da 11))), ((dd 12), .inl (g.2.1, 4, .inl (da 12)))] [.ref mo, .int i, .int wh] (fun (r : Int32) (_ : Unit) => r = (cn (d_ofv i wh) (d_tv da i.toNatClampNeg wh) 0)) (fun _ : Unit => [(mo, cO (dd 0) (fun _ => (d_ofv i wh))), ((dd 0), cD dd di sm), ((dd 3), .inl (g.2.1, 4, .inl (da 3))), ((dd 4), .inl (g.2.1, 4, .inl (da 4))), ((dd 5), .inl (g.2.1, 4, .inl (da 5))), ((dd 6), .inl (g.2.1, 4, .inl (da 6))), ((dd 7), .inl (g.2.1, 4, .inl (da 7))), ((dd 8), .inl (g.2.1, 4, .inl (da 8))), ((dd 9), .inl (g.2.1, 4, .inl (da 9))), ((dd 10), .inl (g.2.1, 4, .inl (da 10))), ((dd 11), .inl (g.2.1, 4, .inl (da 11))), ((dd 12), .inl (g.2.1, 4, .inl (da 12)))]) := by
  intro sz
  refine g_ent (by decide) hst [(0, .ref mo), (1, .int i), (2, .int wh)] (Nat.le_of_ble_eq_true rfl) rfl ?_
  intro p e s m below meth c B hr hnm hsz
  have B : gB p l s m ([.ref mo, .int i, .int wh] : List Value).toArray meth c RX6 cX6_ofVoice 3 g (va_A [(mo, cO (dd 0) th), ((dd 0), cD dd di sm), ((dd 3), .inl (g.2.1, 4, .inl (da 3))), ((dd 4), .inl (g.2.1, 4, .inl (da 4))), ((dd 5), .inl (g.2.1, 4, .inl (da 5))), ((dd 6), .inl (g.2.1, 4, .inl (da 6))), ((dd 7), .inl (g.2.1, 4, .inl (da 7))), ((dd 8), .inl (g.2.1, 4, .inl (da 8))), ((dd 9), .inl (g.2.1, 4, .inl (da 9))), ((dd 10), .inl (g.2.1, 4, .inl (da 10))), ((dd 11), .inl (g.2.1, 4, .inl (da 11))), ((dd 12), .inl (g.2.1, 4, .inl (da 12)))] sz) := B
  refine g_aload_n B 0 0 dX6_ofVoice_0 rfl rfl ?_
  refine g_iconst (v := 0) B dX6_ofVoice_1 kc_0 ?_
  refine g_put (C := RX6) (T := TX6) (N := 2) (ty := .int) (v := .int 0) B 5 0 0 [(mo, cO (dd 0) (upd th 0 0)), ((dd 0), cD dd di sm), ((dd 3), .inl (g.2.1, 4, .inl (da 3))), ((dd 4), .inl (g.2.1, 4, .inl (da 4))), ((dd 5), .inl (g.2.1, 4, .inl (da 5))), ((dd 6), .inl (g.2.1, 4, .inl (da 6))), ((dd 7), .inl (g.2.1, 4, .inl (da 7))), ((dd 8), .inl (g.2.1, 4, .inl (da 8))), ((dd 9), .inl (g.2.1, 4, .inl (da 9))), ((dd 10), .inl (g.2.1, 4, .inl (da 10))), ((dd 11), .inl (g.2.1, 4, .inl (da 11))), ((dd 12), .inl (g.2.1, 4, .inl (da 12)))] in_X6 tyX6 tyX6_ok nmX6 rfl q1048 rfl (Nat.le_of_ble_eq_true rfl) (fun _ h9 => h9) rfl rfl rfl rfl (Nat.le_of_ble_eq_true rfl) rfl dX6_ofVoice_2 ?_
  refine g_iload_n B 1 1 dX6_ofVoice_5 rfl rfl ?_
  refine g_cuS_i (As := [.int i]) B (m_X6_isVoice l hst g i) [] [] (lw_S q1141 q1142 q38 q1143) nsX6_isVoice rfl rfl rfl rfl (Nat.le_of_ble_eq_true rfl) dX6_ofVoice_6 ⟨Nat.le_of_ble_eq_true rfl, Nat.le_of_ble_eq_true rfl⟩ ⟨Nat.le_of_ble_eq_true rfl, Nat.le_of_ble_eq_true rfl⟩ (fun r_1 ur_1 hr_1 => ?_)
  have hr_1 : r_1 = in_z i 0 3 := hr_1
  refine g_if_ne (tgt := 18) B dX6_ofVoice_9 (by decide) (fun c_2 => ?_) (fun c_2 => ?_)
  · skip
    refine g_iload_n B 2 2 dX6_ofVoice_18 rfl rfl ?_
    refine g_iconst (v := 0) B dX6_ofVoice_19 kc_0 ?_
    refine g_bipush (v := 9) B dX6_ofVoice_20 kb_9 ?_
    refine g_cuS_i (As := [.int wh, .int 0, .int 9]) B (m_X6_isIn l hst g wh 0 9) [] [] (lw_S q1063 q1064 q38 q1065) nsX6_isIn rfl rfl rfl rfl (Nat.le_of_ble_eq_true rfl) dX6_ofVoice_22 ⟨Nat.le_of_ble_eq_true rfl, Nat.le_of_ble_eq_true rfl⟩ ⟨Nat.le_of_ble_eq_true rfl, Nat.le_of_ble_eq_true rfl⟩ (fun r_3 ur_3 hr_3 => ?_)
    have hr_3 : r_3 = in_z wh 0 9 := hr_3
    refine g_if_eq (tgt := 37) B dX6_ofVoice_25 (by decide) (fun c_4 => ?_) (fun c_4 => ?_)
    · skip
      refine g_aload_n B 0 0 dX6_ofVoice_37 rfl rfl ?_
      refine g_iconst (v := 2) B dX6_ofVoice_38 kc_2 ?_
      refine g_cV_i (C := RX6) (T := TX6) (N := 2) (As := [.int 2]) B (m_X6_no l hst g mo (upd th 0 0) dd di sm 2) 5 0 rfl rfl [0] [] (lw_V q1066 q1068 qs15 q38 q1069) nvX6_no rfl rfl (fun _ => rfl) rfl rfl (Nat.le_of_ble_eq_true rfl) dX6_ofVoice_39 ⟨Nat.le_of_ble_eq_true rfl, Nat.le_of_ble_eq_true rfl⟩ ⟨Nat.le_of_ble_eq_true rfl, Nat.le_of_ble_eq_true rfl⟩ (fun r_5 ur_5 hr_5 => ?_)
      refine g_eqw (ws' := [(mo, cO (dd 0) (upd (upd th 0 0) 0 2)), ((dd 0), cD dd di sm), ((dd 3), .inl (g.2.1, 4, .inl (da 3))), ((dd 4), .inl (g.2.1, 4, .inl (da 4))), ((dd 5), .inl (g.2.1, 4, .inl (da 5))), ((dd 6), .inl (g.2.1, 4, .inl (da 6))), ((dd 7), .inl (g.2.1, 4, .inl (da 7))), ((dd 8), .inl (g.2.1, 4, .inl (da 8))), ((dd 9), .inl (g.2.1, 4, .inl (da 9))), ((dd 10), .inl (g.2.1, 4, .inl (da 10))), ((dd 11), .inl (g.2.1, 4, .inl (da 11))), ((dd 12), .inl (g.2.1, 4, .inl (da 12)))]) rfl ?_
      have hr_5 : r_5 = 0 := hr_5
      subst hr_1
      subst hr_3
      subst hr_5
      exact g_iret B hr dX6_ofVoice_42 (Nat.le_of_ble_eq_true rfl) (Nat.le_of_ble_eq_true rfl) () (by first | (simp only [cn, d_ofv, if_neg c_2, if_pos c_4]; done) | (simp only [cn, d_ofv, if_neg c_2, if_pos c_4]; rfl) | rfl) [0, 1, 2, 3, 4, 5, 6, 7, 8, 9, 10, 11] rfl (by first | (simp only [cn, d_ofv, if_neg c_2, if_pos c_4]; rfl) | rfl)
    · skip
      obtain ⟨ni, hni, eni⟩ := iz_nat (N := 4) (by rw [← hr_1]; exact c_2) (by decide) (by decide)
      have tni : i.toNatClampNeg = ni := by rw [eni]; exact nI_clamp (by omega)
      refine g_lvq (lv' := [(0, .ref mo), (1, .int (nI ni)), (2, .int wh)]) (by rw [eni]) ?_
      refine g_aload_n B 0 0 dX6_ofVoice_28 rfl rfl ?_
      refine g_iload_n B 1 1 dX6_ofVoice_29 rfl rfl ?_
      refine g_iload_n B 2 2 dX6_ofVoice_30 rfl rfl ?_
      refine g_cuV_i (C := RX6) (T := TX6) (N := 2) (As := [.int (nI ni), .int wh]) B (m_X6_voiceNow l hst g mo (upd th 0 0) dd di sm da ni wh (by omega)) 5 0 rfl rfl [0, 1, 2, 3, 4, 5, 6, 7, 8, 9, 10, 11] [] (lw_V q1264 q1266 qs24 q38 q1267) nvX6_voiceNow rfl rfl rfl rfl (Nat.le_of_ble_eq_true rfl) dX6_ofVoice_31 ⟨Nat.le_of_ble_eq_true rfl, Nat.le_of_ble_eq_true rfl⟩ ⟨Nat.le_of_ble_eq_true rfl, Nat.le_of_ble_eq_true rfl⟩ (fun r_6 ur_6 hr_6 => ?_)
      have hr_6 : r_6 = d_tv da ni wh := hr_6
      refine g_goto (tgt := 42) B dX6_ofVoice_34 (by decide) ?_
      subst hr_1
      subst hr_3
      subst hr_6
      exact g_iret B hr dX6_ofVoice_42 (Nat.le_of_ble_eq_true rfl) (Nat.le_of_ble_eq_true rfl) () (by first | (simp only [cn, d_ofv, if_neg c_2, if_neg c_4, tni]; done) | (simp only [cn, d_ofv, if_neg c_2, if_neg c_4, tni]; rfl) | rfl) [0, 1, 2, 3, 4, 5, 6, 7, 8, 9, 10, 11] rfl (by first | (simp only [cn, d_ofv, if_neg c_2, if_neg c_4, tni]; rfl) | rfl)
  · skip
    refine g_aload_n B 0 0 dX6_ofVoice_12 rfl rfl ?_
    refine g_iconst (v := 1) B dX6_ofVoice_13 kc_1 ?_
    refine g_cV_i (C := RX6) (T := TX6) (N := 2) (As := [.int 1]) B (m_X6_no l hst g mo (upd th 0 0) dd di sm 1) 5 0 rfl rfl [0] [] (lw_V q1066 q1068 qs15 q38 q1069) nvX6_no rfl rfl (fun _ => rfl) rfl rfl (Nat.le_of_ble_eq_true rfl) dX6_ofVoice_14 ⟨Nat.le_of_ble_eq_true rfl, Nat.le_of_ble_eq_true rfl⟩ ⟨Nat.le_of_ble_eq_true rfl, Nat.le_of_ble_eq_true rfl⟩ (fun r_7 ur_7 hr_7 => ?_)
    refine g_eqw (ws' := [(mo, cO (dd 0) (upd (upd th 0 0) 0 1)), ((dd 0), cD dd di sm), ((dd 3), .inl (g.2.1, 4, .inl (da 3))), ((dd 4), .inl (g.2.1, 4, .inl (da 4))), ((dd 5), .inl (g.2.1, 4, .inl (da 5))), ((dd 6), .inl (g.2.1, 4, .inl (da 6))), ((dd 7), .inl (g.2.1, 4, .inl (da 7))), ((dd 8), .inl (g.2.1, 4, .inl (da 8))), ((dd 9), .inl (g.2.1, 4, .inl (da 9))), ((dd 10), .inl (g.2.1, 4, .inl (da 10))), ((dd 11), .inl (g.2.1, 4, .inl (da 11))), ((dd 12), .inl (g.2.1, 4, .inl (da 12)))]) rfl ?_
    have hr_7 : r_7 = 0 := hr_7
    subst hr_1
    subst hr_7
    exact g_iret B hr dX6_ofVoice_17 (Nat.le_of_ble_eq_true rfl) (Nat.le_of_ble_eq_true rfl) () (by first | (simp only [cn, d_ofv, if_pos c_2]; done) | (simp only [cn, d_ofv, if_pos c_2]; rfl) | rfl) [0, 1, 2, 3, 4, 5, 6, 7, 8, 9, 10, 11] rfl (by first | (simp only [cn, d_ofv, if_pos c_2]; rfl) | rfl)

set_option maxHeartbeats 4000000 in
set_option maxRecDepth 100000 in
theorem m_X6_ofStep (l : Launch) (hst : l.stackTraces = false) (g : gG) (mo : Nat) (th : Nat → Int32) (dd : Nat → Nat) (di : Nat → Int32) (sm : Int64) (da : Nat → Nat → Int32) (t j wh : Int32) : gMi l yX6_ofStep cX6_ofStep 4 .int 2 42 0 0 g [(mo, cO (dd 0) th), ((dd 0), cD dd di sm), ((dd 16), .inl (g.2.1, 72, .inl (da 16)))] [.ref mo, .int t, .int j, .int wh] (fun (r : Int32) (_ : Unit) => r = (cn (d_ofs t j wh) (da 16 (((t.toNatClampNeg * 8 + j.toNatClampNeg) * 3) + wh.toNatClampNeg)) 0)) (fun _ : Unit => [(mo, cO (dd 0) (fun _ => (d_ofs t j wh))), ((dd 0), cD dd di sm), ((dd 16), .inl (g.2.1, 72, .inl (da 16)))]) := by
  intro sz
  refine g_ent (by decide) hst [(0, .ref mo), (1, .int t), (2, .int j), (3, .int wh)] (Nat.le_of_ble_eq_true rfl) rfl ?_
  intro p e s m below meth c B hr hnm hsz
  have B : gB p l s m ([.ref mo, .int t, .int j, .int wh] : List Value).toArray meth c RX6 cX6_ofStep 4 g (va_A [(mo, cO (dd 0) th), ((dd 0), cD dd di sm), ((dd 16), .inl (g.2.1, 72, .inl (da 16)))] sz) := B
  refine g_aload_n B 0 0 dX6_ofStep_0 rfl rfl ?_
  refine g_iconst (v := 0) B dX6_ofStep_1 kc_0 ?_
  refine g_put (C := RX6) (T := TX6) (N := 2) (ty := .int) (v := .int 0) B 5 0 0 [(mo, cO (dd 0) (upd th 0 0)), ((dd 0), cD dd di sm), ((dd 16), .inl (g.2.1, 72, .inl (da 16)))] in_X6 tyX6 tyX6_ok nmX6 rfl q1048 rfl (Nat.le_of_ble_eq_true rfl) (fun _ h9 => h9) rfl rfl rfl rfl (Nat.le_of_ble_eq_true rfl) rfl dX6_ofStep_2 ?_
  refine g_iload_n B 1 1 dX6_ofStep_5 rfl rfl ?_
  refine g_iconst (v := 0) B dX6_ofStep_6 kc_0 ?_
  refine g_iconst (v := 2) B dX6_ofStep_7 kc_2 ?_
  refine g_cuS_i (As := [.int t, .int 0, .int 2]) B (m_X6_isIn l hst g t 0 2) [] [] (lw_S q1063 q1064 q38 q1065) nsX6_isIn rfl rfl rfl rfl (Nat.le_of_ble_eq_true rfl) dX6_ofStep_8 ⟨Nat.le_of_ble_eq_true rfl, Nat.le_of_ble_eq_true rfl⟩ ⟨Nat.le_of_ble_eq_true rfl, Nat.le_of_ble_eq_true rfl⟩ (fun r_1 ur_1 hr_1 => ?_)
  have hr_1 : r_1 = in_z t 0 2 := hr_1
  refine g_if_eq (tgt := 21) B dX6_ofStep_11 (by decide) (fun c_2 => ?_) (fun c_2 => ?_)
  · skip
    refine g_aload_n B 0 0 dX6_ofStep_21 rfl rfl ?_
    refine g_iconst (v := 1) B dX6_ofStep_22 kc_1 ?_
    refine g_cV_i (C := RX6) (T := TX6) (N := 2) (As := [.int 1]) B (m_X6_no l hst g mo (upd th 0 0) dd di sm 1) 5 0 rfl rfl [0] [] (lw_V q1066 q1068 qs15 q38 q1069) nvX6_no rfl rfl (fun _ => rfl) rfl rfl (Nat.le_of_ble_eq_true rfl) dX6_ofStep_23 ⟨Nat.le_of_ble_eq_true rfl, Nat.le_of_ble_eq_true rfl⟩ ⟨Nat.le_of_ble_eq_true rfl, Nat.le_of_ble_eq_true rfl⟩ (fun r_3 ur_3 hr_3 => ?_)
    refine g_eqw (ws' := [(mo, cO (dd 0) (upd (upd th 0 0) 0 1)), ((dd 0), cD dd di sm), ((dd 16), .inl (g.2.1, 72, .inl (da 16)))]) rfl ?_
    have hr_3 : r_3 = 0 := hr_3
    subst hr_1
    subst hr_3
    exact g_iret B hr dX6_ofStep_26 (Nat.le_of_ble_eq_true rfl) (Nat.le_of_ble_eq_true rfl) () (by first | (simp only [cn, d_ofs, if_pos c_2]; done) | (simp only [cn, d_ofs, if_pos c_2]; rfl) | rfl) [0, 1, 2] rfl (by first | (simp only [cn, d_ofs, if_pos c_2]; rfl) | rfl)
  · skip
    refine g_iload_n B 2 2 dX6_ofStep_14 rfl rfl ?_
    refine g_cuS_i (As := [.int j]) B (m_X6_isStep l hst g j) [] [] (lw_S q1161 q1162 q38 q1163) nsX6_isStep rfl rfl rfl rfl (Nat.le_of_ble_eq_true rfl) dX6_ofStep_15 ⟨Nat.le_of_ble_eq_true rfl, Nat.le_of_ble_eq_true rfl⟩ ⟨Nat.le_of_ble_eq_true rfl, Nat.le_of_ble_eq_true rfl⟩ (fun r_4 ur_4 hr_4 => ?_)
    have hr_4 : r_4 = in_z j 0 7 := hr_4
    refine g_if_ne (tgt := 27) B dX6_ofStep_18 (by decide) (fun c_5 => ?_) (fun c_5 => ?_)
    · skip
      refine g_iload_n B 3 3 dX6_ofStep_27 rfl rfl ?_
      refine g_iconst (v := 0) B dX6_ofStep_28 kc_0 ?_
      refine g_iconst (v := 2) B dX6_ofStep_29 kc_2 ?_
      refine g_cuS_i (As := [.int wh, .int 0, .int 2]) B (m_X6_isIn l hst g wh 0 2) [] [] (lw_S q1063 q1064 q38 q1065) nsX6_isIn rfl rfl rfl rfl (Nat.le_of_ble_eq_true rfl) dX6_ofStep_30 ⟨Nat.le_of_ble_eq_true rfl, Nat.le_of_ble_eq_true rfl⟩ ⟨Nat.le_of_ble_eq_true rfl, Nat.le_of_ble_eq_true rfl⟩ (fun r_6 ur_6 hr_6 => ?_)
      have hr_6 : r_6 = in_z wh 0 2 := hr_6
      refine g_if_eq (tgt := 57) B dX6_ofStep_33 (by decide) (fun c_7 => ?_) (fun c_7 => ?_)
      · skip
        refine g_aload_n B 0 0 dX6_ofStep_57 rfl rfl ?_
        refine g_iconst (v := 2) B dX6_ofStep_58 kc_2 ?_
        refine g_cV_i (C := RX6) (T := TX6) (N := 2) (As := [.int 2]) B (m_X6_no l hst g mo (upd th 0 0) dd di sm 2) 5 0 rfl rfl [0] [] (lw_V q1066 q1068 qs15 q38 q1069) nvX6_no rfl rfl (fun _ => rfl) rfl rfl (Nat.le_of_ble_eq_true rfl) dX6_ofStep_59 ⟨Nat.le_of_ble_eq_true rfl, Nat.le_of_ble_eq_true rfl⟩ ⟨Nat.le_of_ble_eq_true rfl, Nat.le_of_ble_eq_true rfl⟩ (fun r_8 ur_8 hr_8 => ?_)
        refine g_eqw (ws' := [(mo, cO (dd 0) (upd (upd th 0 0) 0 2)), ((dd 0), cD dd di sm), ((dd 16), .inl (g.2.1, 72, .inl (da 16)))]) rfl ?_
        have hr_8 : r_8 = 0 := hr_8
        subst hr_1
        subst hr_4
        subst hr_6
        subst hr_8
        exact g_iret B hr dX6_ofStep_62 (Nat.le_of_ble_eq_true rfl) (Nat.le_of_ble_eq_true rfl) () (by first | (simp only [cn, d_ofs, if_neg c_2, if_neg c_5, if_pos c_7]; done) | (simp only [cn, d_ofs, if_neg c_2, if_neg c_5, if_pos c_7]; rfl) | rfl) [0, 1, 2] rfl (by first | (simp only [cn, d_ofs, if_neg c_2, if_neg c_5, if_pos c_7]; rfl) | rfl)
      · skip
        obtain ⟨nt, hnt, ent⟩ := iz_nat (N := 3) (by rw [← hr_1]; exact c_2) (by decide) (by decide)
        have tnt : t.toNatClampNeg = nt := by rw [ent]; exact nI_clamp (by omega)
        refine g_lvq (lv' := [(0, .ref mo), (1, .int (nI nt)), (2, .int j), (3, .int wh)]) (by rw [ent]) ?_
        obtain ⟨nj, hnj, enj⟩ := iz_nat (N := 8) (by rw [← hr_4]; exact c_5) (by decide) (by decide)
        have tnj : j.toNatClampNeg = nj := by rw [enj]; exact nI_clamp (by omega)
        refine g_lvq (lv' := [(0, .ref mo), (1, .int (nI nt)), (2, .int (nI nj)), (3, .int wh)]) (by rw [enj]) ?_
        obtain ⟨nwh, hnwh, enwh⟩ := iz_nat (N := 3) (by rw [← hr_6]; exact c_7) (by decide) (by decide)
        have tnwh : wh.toNatClampNeg = nwh := by rw [enwh]; exact nI_clamp (by omega)
        refine g_lvq (lv' := [(0, .ref mo), (1, .int (nI nt)), (2, .int (nI nj)), (3, .int (nI nwh))]) (by rw [enwh]) ?_
        refine g_aload_n B 0 0 dX6_ofStep_36 rfl rfl ?_
        refine g_get (C := RX6) (T := TX6) (N := 2) B 5 0 1 (.ref (dd 0)) in_X6 rfl q1049 rfl (Nat.le_of_ble_eq_true rfl) (fun _ h9 => h9) rfl dX6_ofStep_37 ?_
        refine g_get (C := RX7) (T := TX7) (N := 35) B 6 1 21 (.ref (dd 16)) in_X7 rfl q951 rfl (Nat.le_of_ble_eq_true rfl) (fun _ h9 => h9) rfl dX6_ofStep_40 ?_
        refine g_iload_n B 1 1 dX6_ofStep_43 rfl rfl ?_
        refine g_bipush (v := 8) B dX6_ofStep_44 kb_8 ?_
        refine g_imul B dX6_ofStep_46 ?_
        refine g_eqs (st' := [.int (nI (nt * 8)), .ref (dd 16)]) (congrArg (fun z => Value.int z :: _) (pk_mul nt 8)) ?_
        refine g_iload_n B 2 2 dX6_ofStep_47 rfl rfl ?_
        refine g_iadd B dX6_ofStep_48 ?_
        refine g_eqs (st' := [.int (nI ((nt * 8) + nj)), .ref (dd 16)]) (congrArg (fun z => Value.int z :: _) (nI_add (nt * 8) nj)) ?_
        refine g_iconst (v := 3) B dX6_ofStep_49 kc_3 ?_
        refine g_imul B dX6_ofStep_50 ?_
        refine g_eqs (st' := [.int (nI (((nt * 8) + nj) * 3)), .ref (dd 16)]) (congrArg (fun z => Value.int z :: _) (pk_mul ((nt * 8) + nj) 3)) ?_
        refine g_iload_n B 3 3 dX6_ofStep_51 rfl rfl ?_
        refine g_iadd B dX6_ofStep_52 ?_
        refine g_eqs (st' := [.int (nI ((((nt * 8) + nj) * 3) + nwh)), .ref (dd 16)]) (congrArg (fun z => Value.int z :: _) (nI_add (((nt * 8) + nj) * 3) nwh)) ?_
        refine g_iald B 2 ((((nt * 8) + nj) * 3) + nwh) rfl (nI_clamp (by omega)) (vp_in_nI (by omega) (by omega)) dX6_ofStep_53 ?_
        refine g_goto (tgt := 62) B dX6_ofStep_54 (by decide) ?_
        refine g_topi (fun x_9 ex_9 => ?_)
        subst hr_1
        subst hr_4
        subst hr_6
        subst ex_9
        exact g_iret B hr dX6_ofStep_62 (Nat.le_of_ble_eq_true rfl) (Nat.le_of_ble_eq_true rfl) () (by first | (simp only [cn, d_ofs, if_neg c_2, if_neg c_5, if_neg c_7, tnt, tnj, tnwh]; done) | (simp only [cn, d_ofs, if_neg c_2, if_neg c_5, if_neg c_7, tnt, tnj, tnwh]; rfl) | rfl) [0, 1, 2] rfl (by first | (simp only [cn, d_ofs, if_neg c_2, if_neg c_5, if_neg c_7, tnt, tnj, tnwh]; rfl) | rfl)
    · skip
      refine g_aload_n B 0 0 dX6_ofStep_21 rfl rfl ?_
      refine g_iconst (v := 1) B dX6_ofStep_22 kc_1 ?_
      refine g_cV_i (C := RX6) (T := TX6) (N := 2) (As := [.int 1]) B (m_X6_no l hst g mo (upd th 0 0) dd di sm 1) 5 0 rfl rfl [0] [] (lw_V q1066 q1068 qs15 q38 q1069) nvX6_no rfl rfl (fun _ => rfl) rfl rfl (Nat.le_of_ble_eq_true rfl) dX6_ofStep_23 ⟨Nat.le_of_ble_eq_true rfl, Nat.le_of_ble_eq_true rfl⟩ ⟨Nat.le_of_ble_eq_true rfl, Nat.le_of_ble_eq_true rfl⟩ (fun r_10 ur_10 hr_10 => ?_)
      refine g_eqw (ws' := [(mo, cO (dd 0) (upd (upd th 0 0) 0 1)), ((dd 0), cD dd di sm), ((dd 16), .inl (g.2.1, 72, .inl (da 16)))]) rfl ?_
      have hr_10 : r_10 = 0 := hr_10
      subst hr_1
      subst hr_4
      subst hr_10
      exact g_iret B hr dX6_ofStep_26 (Nat.le_of_ble_eq_true rfl) (Nat.le_of_ble_eq_true rfl) () (by first | (simp only [cn, d_ofs, if_neg c_2, if_pos c_5]; done) | (simp only [cn, d_ofs, if_neg c_2, if_pos c_5]; rfl) | rfl) [0, 1, 2] rfl (by first | (simp only [cn, d_ofs, if_neg c_2, if_pos c_5]; rfl) | rfl)

set_option maxHeartbeats 4000000 in
set_option maxRecDepth 100000 in
theorem m_X6_inDelay (l : Launch) (hst : l.stackTraces = false) (g : gG) (mo : Nat) (th : Nat → Int32) (dd : Nat → Nat) (di : Nat → Int32) (sm : Int64) (da : Nat → Nat → Int32) (pl : Int32) (hl : rg (di 3) 0 200) : gMi l yX6_inDelay cX6_inDelay 2 .int 1 22 0 0 g [(mo, cO (dd 0) th), ((dd 0), cD dd di sm), ((dd 14), .inl (g.2.1, 200, .inl (da 14)))] [.ref mo, .int pl] (fun (r : Int32) (_ : Unit) => r = (cn (d_ind (di 3) pl) (da 14 pl.toNatClampNeg) 0)) (fun _ : Unit => [(mo, cO (dd 0) (fun _ => (d_ind (di 3) pl))), ((dd 0), cD dd di sm), ((dd 14), .inl (g.2.1, 200, .inl (da 14)))]) := by
  intro sz
  refine g_ent (by decide) hst [(0, .ref mo), (1, .int pl)] (Nat.le_of_ble_eq_true rfl) rfl ?_
  intro p e s m below meth c B hr hnm hsz
  have B : gB p l s m ([.ref mo, .int pl] : List Value).toArray meth c RX6 cX6_inDelay 2 g (va_A [(mo, cO (dd 0) th), ((dd 0), cD dd di sm), ((dd 14), .inl (g.2.1, 200, .inl (da 14)))] sz) := B
  refine g_aload_n B 0 0 dX6_inDelay_0 rfl rfl ?_
  refine g_iconst (v := 0) B dX6_inDelay_1 kc_0 ?_
  refine g_put (C := RX6) (T := TX6) (N := 2) (ty := .int) (v := .int 0) B 5 0 0 [(mo, cO (dd 0) (upd th 0 0)), ((dd 0), cD dd di sm), ((dd 14), .inl (g.2.1, 200, .inl (da 14)))] in_X6 tyX6 tyX6_ok nmX6 rfl q1048 rfl (Nat.le_of_ble_eq_true rfl) (fun _ h9 => h9) rfl rfl rfl rfl (Nat.le_of_ble_eq_true rfl) rfl dX6_inDelay_2 ?_
  refine g_iload_n B 1 1 dX6_inDelay_5 rfl rfl ?_
  refine g_iconst (v := 0) B dX6_inDelay_6 kc_0 ?_
  refine g_aload_n B 0 0 dX6_inDelay_7 rfl rfl ?_
  refine g_get (C := RX6) (T := TX6) (N := 2) B 5 0 1 (.ref (dd 0)) in_X6 rfl q1049 rfl (Nat.le_of_ble_eq_true rfl) (fun _ h9 => h9) rfl dX6_inDelay_8 ?_
  refine g_get (C := RX7) (T := TX7) (N := 35) B 6 1 16 (.int (di 3)) in_X7 rfl q941 rfl (Nat.le_of_ble_eq_true rfl) (fun _ h9 => h9) rfl dX6_inDelay_11 ?_
  refine g_iconst (v := 1) B dX6_inDelay_14 kc_1 ?_
  refine g_isub B dX6_inDelay_15 ?_
  refine g_cuS_i (As := [.int pl, .int 0, .int ((di 3) - 1)]) B (m_X6_isIn l hst g pl 0 ((di 3) - 1)) [] [] (lw_S q1063 q1064 q38 q1065) nsX6_isIn rfl rfl rfl rfl (Nat.le_of_ble_eq_true rfl) dX6_inDelay_16 ⟨Nat.le_of_ble_eq_true rfl, Nat.le_of_ble_eq_true rfl⟩ ⟨Nat.le_of_ble_eq_true rfl, Nat.le_of_ble_eq_true rfl⟩ (fun r_1 ur_1 hr_1 => ?_)
  have hr_1 : r_1 = in_z pl 0 ((di 3) - 1) := hr_1
  refine g_if_eq (tgt := 34) B dX6_inDelay_19 (by decide) (fun c_2 => ?_) (fun c_2 => ?_)
  · skip
    refine g_aload_n B 0 0 dX6_inDelay_34 rfl rfl ?_
    refine g_iconst (v := 1) B dX6_inDelay_35 kc_1 ?_
    refine g_cV_i (C := RX6) (T := TX6) (N := 2) (As := [.int 1]) B (m_X6_no l hst g mo (upd th 0 0) dd di sm 1) 5 0 rfl rfl [0] [] (lw_V q1066 q1068 qs15 q38 q1069) nvX6_no rfl rfl (fun _ => rfl) rfl rfl (Nat.le_of_ble_eq_true rfl) dX6_inDelay_36 ⟨Nat.le_of_ble_eq_true rfl, Nat.le_of_ble_eq_true rfl⟩ ⟨Nat.le_of_ble_eq_true rfl, Nat.le_of_ble_eq_true rfl⟩ (fun r_3 ur_3 hr_3 => ?_)
    refine g_eqw (ws' := [(mo, cO (dd 0) (upd (upd th 0 0) 0 1)), ((dd 0), cD dd di sm), ((dd 14), .inl (g.2.1, 200, .inl (da 14)))]) rfl ?_
    have hr_3 : r_3 = 0 := hr_3
    subst hr_1
    subst hr_3
    exact g_iret B hr dX6_inDelay_39 (Nat.le_of_ble_eq_true rfl) (Nat.le_of_ble_eq_true rfl) () (by first | (simp only [cn, d_ind, if_pos c_2]; done) | (simp only [cn, d_ind, if_pos c_2]; rfl) | rfl) [0, 1, 2] rfl (by first | (simp only [cn, d_ind, if_pos c_2]; rfl) | rfl)
  · skip
    refine g_aload_n B 0 0 dX6_inDelay_22 rfl rfl ?_
    refine g_get (C := RX6) (T := TX6) (N := 2) B 5 0 1 (.ref (dd 0)) in_X6 rfl q1049 rfl (Nat.le_of_ble_eq_true rfl) (fun _ h9 => h9) rfl dX6_inDelay_23 ?_
    refine g_get (C := RX7) (T := TX7) (N := 35) B 6 1 19 (.ref (dd 14)) in_X7 rfl q947 rfl (Nat.le_of_ble_eq_true rfl) (fun _ h9 => h9) rfl dX6_inDelay_26 ?_
    refine g_iload_n B 1 1 dX6_inDelay_29 rfl rfl ?_
    refine g_iald B 2 pl.toNatClampNeg rfl rfl (iz_in (by rw [← hr_1]; exact c_2) (dl_2 hl)) dX6_inDelay_30 ?_
    refine g_goto (tgt := 39) B dX6_inDelay_31 (by decide) ?_
    refine g_topi (fun x_4 ex_4 => ?_)
    subst hr_1
    subst ex_4
    exact g_iret B hr dX6_inDelay_39 (Nat.le_of_ble_eq_true rfl) (Nat.le_of_ble_eq_true rfl) () (by first | (simp only [cn, d_ind, if_neg c_2]; done) | (simp only [cn, d_ind, if_neg c_2]; rfl) | rfl) [0, 1, 2] rfl (by first | (simp only [cn, d_ind, if_neg c_2]; rfl) | rfl)
