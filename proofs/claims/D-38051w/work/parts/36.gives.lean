/-! contracts: a voice of the desk -/
set_option maxRecDepth 100000

theorem nsX6_keep : yX6_keep.cls ≠ "java/lang/invoke/MethodHandle" ∧ yX6_keep.cls ≠ "java/lang/invoke/VarHandle" ∧ (parseMethodDescriptor yX6_keep.desc).map (fun d => d.parameters.length) = some 2 := by decide +kernel
theorem nsX7_stride : yX7_stride.cls ≠ "java/lang/invoke/MethodHandle" ∧ yX7_stride.cls ≠ "java/lang/invoke/VarHandle" ∧ (parseMethodDescriptor yX7_stride.desc).map (fun d => d.parameters.length) = some 1 := by decide +kernel
theorem nvX7_goOnLevel : yX7_goOnLevel.cls = RX7 ∧ yX7_goOnLevel.cls ≠ "java/lang/invoke/MethodHandle" ∧ yX7_goOnLevel.cls ≠ "java/lang/invoke/VarHandle" ∧ (parseMethodDescriptor yX7_goOnLevel.desc).map (fun d => d.parameters.length) = some 1 := by decide +kernel
theorem nvX7_told : yX7_told.cls = RX7 ∧ yX7_told.cls ≠ "java/lang/invoke/MethodHandle" ∧ yX7_told.cls ≠ "java/lang/invoke/VarHandle" ∧ (parseMethodDescriptor yX7_told.desc).map (fun d => d.parameters.length) = some 2 := by decide +kernel
theorem nvX7_wave : yX7_wave.cls = RX7 ∧ yX7_wave.cls ≠ "java/lang/invoke/MethodHandle" ∧ yX7_wave.cls ≠ "java/lang/invoke/VarHandle" ∧ (parseMethodDescriptor yX7_wave.desc).map (fun d => d.parameters.length) = some 2 := by decide +kernel
set_option maxHeartbeats 4000000 in
set_option maxRecDepth 100000 in
theorem m_X7_goOnLevel (l : Launch) (hst : l.stackTraces = false) (g : gG) (dd : Nat → Nat) (di : Nat → Int32) (sm : Int64) (da : Nat → Nat → Int32) (v : Nat) (hv : v < 4) (ho : vp_in (da 5 v) 4) (z4 : ¬ d_qa da v 4 = 0) (z5 : ¬ d_qa da v 5 = 0) (z7 : ¬ d_qa da v 7 = 0) : gMv l yX7_goOnLevel cX7_goOnLevel 3 1 24 0 0 g [((dd 0), cD dd di sm), ((dd 2), .inl (g.2.1, 48, .inl (da 2))), ((dd 3), .inl (g.2.1, 4, .inl (da 3))), ((dd 4), .inl (g.2.1, 4, .inl (da 4))), ((dd 5), .inl (g.2.1, 4, .inl (da 5)))] [.ref (dd 0), .int (nI v)] (fun (_ : Unit) => True) (fun _ : Unit => [((dd 0), cD dd di sm), ((dd 2), .inl (g.2.1, 48, .inl ((d_lv da v) 2))), ((dd 3), .inl (g.2.1, 4, .inl ((d_lv da v) 3))), ((dd 4), .inl (g.2.1, 4, .inl ((d_lv da v) 4))), ((dd 5), .inl (g.2.1, 4, .inl ((d_lv da v) 5)))]) := by
  intro sz
  refine g_ent (by decide) hst [(0, .ref (dd 0)), (1, .int (nI v))] (Nat.le_of_ble_eq_true rfl) rfl ?_
  intro p e s m below meth c B hr hnm hsz
  have B : gB p l s m ([.ref (dd 0), .int (nI v)] : List Value).toArray meth c RX7 cX7_goOnLevel 3 g (va_A [((dd 0), cD dd di sm), ((dd 2), .inl (g.2.1, 48, .inl (da 2))), ((dd 3), .inl (g.2.1, 4, .inl (da 3))), ((dd 4), .inl (g.2.1, 4, .inl (da 4))), ((dd 5), .inl (g.2.1, 4, .inl (da 5)))] sz) := B
  refine g_sipush (v := 1000) B dX7_goOnLevel_0 ks_1000 ?_
  refine g_aload_n B 0 0 dX7_goOnLevel_3 rfl rfl ?_
  refine g_iload_n B 1 1 dX7_goOnLevel_4 rfl rfl ?_
  refine g_bipush (v := 6) B dX7_goOnLevel_5 kb_6 ?_
  refine g_cuV_i (C := RX7) (T := TX7) (N := 35) (As := [.int (nI v), .int 6]) B (m_X7_told l hst g dd di sm (da 2) (da 5) v 6 hv ho (vpc rfl)) 6 0 rfl rfl [0, 1, 4] [.int 1000] (lw_V q1206 q1208 qs22 q39 q1209) nvX7_told rfl rfl rfl rfl (Nat.le_of_ble_eq_true rfl) dX7_goOnLevel_7 ⟨Nat.le_of_ble_eq_true rfl, Nat.le_of_ble_eq_true rfl⟩ ⟨Nat.le_of_ble_eq_true rfl, Nat.le_of_ble_eq_true rfl⟩ (fun r_1 ur_1 hr_1 => ?_)
  have hr_1 : r_1 = d_qa da v 6 := hr_1
  refine g_imul B dX7_goOnLevel_10 ?_
  refine g_istore_n B 2 [(2, .int (1000 * r_1)), (0, .ref (dd 0)), (1, .int (nI v))] dX7_goOnLevel_11 rfl (Nat.le_of_ble_eq_true rfl) rfl ?_
  refine g_aload_n B 0 1 dX7_goOnLevel_12 rfl rfl ?_
  refine g_get (C := RX7) (T := TX7) (N := 35) B 6 0 2 (.ref (dd 3)) in_X7 rfl q914 rfl (Nat.le_of_ble_eq_true rfl) (fun _ h9 => h9) rfl dX7_goOnLevel_13 ?_
  refine g_iload_n B 1 2 dX7_goOnLevel_16 rfl rfl ?_
  refine g_iald B 2 v rfl (nI_clamp (by omega)) (vp_in_nI (by omega) (by omega)) dX7_goOnLevel_17 ?_
  by_cases c_2 : ((da 3) v) = 1
  · skip
    refine g_tabIn (off := 26) (tgt := 44) B dX7_goOnLevel_18 (by rw [c_2]; decide) (by rw [c_2]; decide) (by rw [c_2]; decide) (by decide) ?_
    refine g_aload_n B 0 1 dX7_goOnLevel_44 rfl rfl ?_
    refine g_get (C := RX7) (T := TX7) (N := 35) B 6 0 3 (.ref (dd 4)) in_X7 rfl q916 rfl (Nat.le_of_ble_eq_true rfl) (fun _ h9 => h9) rfl dX7_goOnLevel_45 ?_
    refine g_iload_n B 1 2 dX7_goOnLevel_48 rfl rfl ?_
    refine g_ldc (v := 1000000) B dX7_goOnLevel_49 q1210 ?_
    refine g_aload_n B 0 1 dX7_goOnLevel_51 rfl rfl ?_
    refine g_get (C := RX7) (T := TX7) (N := 35) B 6 0 3 (.ref (dd 4)) in_X7 rfl q916 rfl (Nat.le_of_ble_eq_true rfl) (fun _ h9 => h9) rfl dX7_goOnLevel_52 ?_
    refine g_iload_n B 1 2 dX7_goOnLevel_55 rfl rfl ?_
    refine g_iald B 3 v rfl (nI_clamp (by omega)) (vp_in_nI (by omega) (by omega)) dX7_goOnLevel_56 ?_
    refine g_ldc (v := 1000000) B dX7_goOnLevel_57 q1210 ?_
    refine g_aload_n B 0 1 dX7_goOnLevel_59 rfl rfl ?_
    refine g_iload_n B 1 2 dX7_goOnLevel_60 rfl rfl ?_
    refine g_iconst (v := 4) B dX7_goOnLevel_61 kc_4 ?_
    refine g_cuV_i (C := RX7) (T := TX7) (N := 35) (As := [.int (nI v), .int 4]) B (m_X7_told l hst g dd di sm (da 2) (da 5) v 4 hv ho (vpc rfl)) 6 0 rfl rfl [0, 1, 4] [.int 1000000, .int ((da 4) v), .int 1000000, .int (nI v), .ref (dd 4)] (lw_V q1206 q1208 qs22 q39 q1209) nvX7_told rfl rfl rfl rfl (Nat.le_of_ble_eq_true rfl) dX7_goOnLevel_62 ⟨Nat.le_of_ble_eq_true rfl, Nat.le_of_ble_eq_true rfl⟩ ⟨Nat.le_of_ble_eq_true rfl, Nat.le_of_ble_eq_true rfl⟩ (fun r_3 ur_3 hr_3 => ?_)
    have hr_3 : r_3 = d_qa da v 4 := hr_3
    refine g_idiv B dX7_goOnLevel_65 (by rw [hr_3]; exact z4) ?_
    refine g_iadd B dX7_goOnLevel_66 ?_
    refine g_mmin B q1211 q251 q33 q252 (Nat.le_of_ble_eq_true rfl) (Nat.le_of_ble_eq_true rfl) (Nat.le_of_ble_eq_true rfl) (Nat.le_of_ble_eq_true rfl) dX7_goOnLevel_67 ?_
    refine g_topi (fun x_4 ex_4 => ?_)
    replace ex_4 : x_4 = (pmn 1000000 (((da 4) v) + (1000000 / r_3))) := ex_4
    refine g_iast B 3 v [((dd 0), cD dd di sm), ((dd 2), .inl (g.2.1, 48, .inl (da 2))), ((dd 3), .inl (g.2.1, 4, .inl (da 3))), ((dd 4), .inl (g.2.1, 4, .inl (upd (da 4) v x_4))), ((dd 5), .inl (g.2.1, 4, .inl (da 5)))] rfl (nI_clamp (by omega)) (vp_in_nI (by omega) (by omega)) rfl dX7_goOnLevel_70 ?_
    refine g_aload_n B 0 1 dX7_goOnLevel_71 rfl rfl ?_
    refine g_get (C := RX7) (T := TX7) (N := 35) B 6 0 3 (.ref (dd 4)) in_X7 rfl q916 rfl (Nat.le_of_ble_eq_true rfl) (fun _ h9 => h9) rfl dX7_goOnLevel_72 ?_
    refine g_iload_n B 1 2 dX7_goOnLevel_75 rfl rfl ?_
    refine g_iald B 3 v rfl (nI_clamp (by omega)) (vp_in_nI (by omega) (by omega)) dX7_goOnLevel_76 ?_
    refine g_eqs (st' := [.int x_4]) (congrArg (fun z => Value.int z :: _) pk_us) ?_
    refine g_ldc (v := 1000000) B dX7_goOnLevel_77 q1210 ?_
    refine g_icmp_ne (tgt := 195) B dX7_goOnLevel_79 (by decide) (fun c_5 => ?_) (fun c_5 => ?_)
    · skip
      subst hr_1
      subst hr_3
      subst ex_4
      exact g_vret B hr dX7_goOnLevel_195 (Nat.le_of_ble_eq_true rfl) (Nat.le_of_ble_eq_true rfl) () trivial [0, 1, 2, 3, 4] rfl (by simp only [d_lv, d_ls, d_ll, if_pos c_2, if_neg c_5]; rfl)
    · skip
      refine g_aload_n B 0 1 dX7_goOnLevel_82 rfl rfl ?_
      refine g_get (C := RX7) (T := TX7) (N := 35) B 6 0 2 (.ref (dd 3)) in_X7 rfl q914 rfl (Nat.le_of_ble_eq_true rfl) (fun _ h9 => h9) rfl dX7_goOnLevel_83 ?_
      refine g_iload_n B 1 2 dX7_goOnLevel_86 rfl rfl ?_
      refine g_iconst (v := 2) B dX7_goOnLevel_87 kc_2 ?_
      refine g_iast B 2 v [((dd 0), cD dd di sm), ((dd 2), .inl (g.2.1, 48, .inl (da 2))), ((dd 3), .inl (g.2.1, 4, .inl (upd (da 3) v 2))), ((dd 4), .inl (g.2.1, 4, .inl (upd (da 4) v x_4))), ((dd 5), .inl (g.2.1, 4, .inl (da 5)))] rfl (nI_clamp (by omega)) (vp_in_nI (by omega) (by omega)) rfl dX7_goOnLevel_88 ?_
      refine g_goto (tgt := 195) B dX7_goOnLevel_89 (by decide) ?_
      subst hr_1
      subst hr_3
      subst ex_4
      exact g_vret B hr dX7_goOnLevel_195 (Nat.le_of_ble_eq_true rfl) (Nat.le_of_ble_eq_true rfl) () trivial [0, 1, 2, 3, 4] rfl (by simp only [d_lv, d_ls, d_ll, if_pos c_2, if_pos c_5]; rfl)
  by_cases c_6 : ((da 3) v) = 2
  · skip
    refine g_tabIn (off := 74) (tgt := 92) B dX7_goOnLevel_18 (by rw [c_6]; decide) (by rw [c_6]; decide) (by rw [c_6]; decide) (by decide) ?_
    refine g_aload_n B 0 1 dX7_goOnLevel_92 rfl rfl ?_
    refine g_get (C := RX7) (T := TX7) (N := 35) B 6 0 3 (.ref (dd 4)) in_X7 rfl q916 rfl (Nat.le_of_ble_eq_true rfl) (fun _ h9 => h9) rfl dX7_goOnLevel_93 ?_
    refine g_iload_n B 1 2 dX7_goOnLevel_96 rfl rfl ?_
    refine g_iload_n B 2 0 dX7_goOnLevel_97 rfl rfl ?_
    refine g_aload_n B 0 1 dX7_goOnLevel_98 rfl rfl ?_
    refine g_get (C := RX7) (T := TX7) (N := 35) B 6 0 3 (.ref (dd 4)) in_X7 rfl q916 rfl (Nat.le_of_ble_eq_true rfl) (fun _ h9 => h9) rfl dX7_goOnLevel_99 ?_
    refine g_iload_n B 1 2 dX7_goOnLevel_102 rfl rfl ?_
    refine g_iald B 3 v rfl (nI_clamp (by omega)) (vp_in_nI (by omega) (by omega)) dX7_goOnLevel_103 ?_
    refine g_ldc (v := 1000000) B dX7_goOnLevel_104 q1210 ?_
    refine g_iload_n B 2 0 dX7_goOnLevel_106 rfl rfl ?_
    refine g_isub B dX7_goOnLevel_107 ?_
    refine g_aload_n B 0 1 dX7_goOnLevel_108 rfl rfl ?_
    refine g_iload_n B 1 2 dX7_goOnLevel_109 rfl rfl ?_
    refine g_iconst (v := 5) B dX7_goOnLevel_110 kc_5 ?_
    refine g_cuV_i (C := RX7) (T := TX7) (N := 35) (As := [.int (nI v), .int 5]) B (m_X7_told l hst g dd di sm (da 2) (da 5) v 5 hv ho (vpc rfl)) 6 0 rfl rfl [0, 1, 4] [.int (1000000 - (1000 * r_1)), .int ((da 4) v), .int (1000 * r_1), .int (nI v), .ref (dd 4)] (lw_V q1206 q1208 qs22 q39 q1209) nvX7_told rfl rfl rfl rfl (Nat.le_of_ble_eq_true rfl) dX7_goOnLevel_111 ⟨Nat.le_of_ble_eq_true rfl, Nat.le_of_ble_eq_true rfl⟩ ⟨Nat.le_of_ble_eq_true rfl, Nat.le_of_ble_eq_true rfl⟩ (fun r_7 ur_7 hr_7 => ?_)
    have hr_7 : r_7 = d_qa da v 5 := hr_7
    refine g_idiv B dX7_goOnLevel_114 (by rw [hr_7]; exact z5) ?_
    refine g_isub B dX7_goOnLevel_115 ?_
    refine g_iconst (v := 1) B dX7_goOnLevel_116 kc_1 ?_
    refine g_isub B dX7_goOnLevel_117 ?_
    refine g_mmax B q1212 q220 q33 q221 (Nat.le_of_ble_eq_true rfl) (Nat.le_of_ble_eq_true rfl) (Nat.le_of_ble_eq_true rfl) (Nat.le_of_ble_eq_true rfl) dX7_goOnLevel_118 ?_
    refine g_topi (fun x_8 ex_8 => ?_)
    replace ex_8 : x_8 = (pmx (1000 * r_1) ((((da 4) v) - ((1000000 - (1000 * r_1)) / r_7)) - 1)) := ex_8
    refine g_iast B 3 v [((dd 0), cD dd di sm), ((dd 2), .inl (g.2.1, 48, .inl (da 2))), ((dd 3), .inl (g.2.1, 4, .inl (da 3))), ((dd 4), .inl (g.2.1, 4, .inl (upd (da 4) v x_8))), ((dd 5), .inl (g.2.1, 4, .inl (da 5)))] rfl (nI_clamp (by omega)) (vp_in_nI (by omega) (by omega)) rfl dX7_goOnLevel_121 ?_
    refine g_aload_n B 0 1 dX7_goOnLevel_122 rfl rfl ?_
    refine g_get (C := RX7) (T := TX7) (N := 35) B 6 0 3 (.ref (dd 4)) in_X7 rfl q916 rfl (Nat.le_of_ble_eq_true rfl) (fun _ h9 => h9) rfl dX7_goOnLevel_123 ?_
    refine g_iload_n B 1 2 dX7_goOnLevel_126 rfl rfl ?_
    refine g_iald B 3 v rfl (nI_clamp (by omega)) (vp_in_nI (by omega) (by omega)) dX7_goOnLevel_127 ?_
    refine g_eqs (st' := [.int x_8]) (congrArg (fun z => Value.int z :: _) pk_us) ?_
    refine g_iload_n B 2 0 dX7_goOnLevel_128 rfl rfl ?_
    refine g_icmp_ne (tgt := 195) B dX7_goOnLevel_129 (by decide) (fun c_9 => ?_) (fun c_9 => ?_)
    · skip
      subst hr_1
      subst hr_7
      subst ex_8
      exact g_vret B hr dX7_goOnLevel_195 (Nat.le_of_ble_eq_true rfl) (Nat.le_of_ble_eq_true rfl) () trivial [0, 1, 2, 3, 4] rfl (by simp only [d_lv, d_ls, d_ll, if_neg c_2, if_pos c_6, if_neg c_9]; rfl)
    · skip
      refine g_aload_n B 0 1 dX7_goOnLevel_132 rfl rfl ?_
      refine g_get (C := RX7) (T := TX7) (N := 35) B 6 0 2 (.ref (dd 3)) in_X7 rfl q914 rfl (Nat.le_of_ble_eq_true rfl) (fun _ h9 => h9) rfl dX7_goOnLevel_133 ?_
      refine g_iload_n B 1 2 dX7_goOnLevel_136 rfl rfl ?_
      refine g_iconst (v := 3) B dX7_goOnLevel_137 kc_3 ?_
      refine g_iast B 2 v [((dd 0), cD dd di sm), ((dd 2), .inl (g.2.1, 48, .inl (da 2))), ((dd 3), .inl (g.2.1, 4, .inl (upd (da 3) v 3))), ((dd 4), .inl (g.2.1, 4, .inl (upd (da 4) v x_8))), ((dd 5), .inl (g.2.1, 4, .inl (da 5)))] rfl (nI_clamp (by omega)) (vp_in_nI (by omega) (by omega)) rfl dX7_goOnLevel_138 ?_
      refine g_goto (tgt := 195) B dX7_goOnLevel_139 (by decide) ?_
      subst hr_1
      subst hr_7
      subst ex_8
      exact g_vret B hr dX7_goOnLevel_195 (Nat.le_of_ble_eq_true rfl) (Nat.le_of_ble_eq_true rfl) () trivial [0, 1, 2, 3, 4] rfl (by simp only [d_lv, d_ls, d_ll, if_neg c_2, if_pos c_6, if_pos c_9]; rfl)
  by_cases c_10 : ((da 3) v) = 3
  · skip
    refine g_tabIn (off := 124) (tgt := 142) B dX7_goOnLevel_18 (by rw [c_10]; decide) (by rw [c_10]; decide) (by rw [c_10]; decide) (by decide) ?_
    refine g_aload_n B 0 1 dX7_goOnLevel_142 rfl rfl ?_
    refine g_get (C := RX7) (T := TX7) (N := 35) B 6 0 3 (.ref (dd 4)) in_X7 rfl q916 rfl (Nat.le_of_ble_eq_true rfl) (fun _ h9 => h9) rfl dX7_goOnLevel_143 ?_
    refine g_iload_n B 1 2 dX7_goOnLevel_146 rfl rfl ?_
    refine g_iload_n B 2 0 dX7_goOnLevel_147 rfl rfl ?_
    refine g_iast B 3 v [((dd 0), cD dd di sm), ((dd 2), .inl (g.2.1, 48, .inl (da 2))), ((dd 3), .inl (g.2.1, 4, .inl (da 3))), ((dd 4), .inl (g.2.1, 4, .inl (upd (da 4) v (1000 * r_1)))), ((dd 5), .inl (g.2.1, 4, .inl (da 5)))] rfl (nI_clamp (by omega)) (vp_in_nI (by omega) (by omega)) rfl dX7_goOnLevel_148 ?_
    refine g_goto (tgt := 195) B dX7_goOnLevel_149 (by decide) ?_
    subst hr_1
    exact g_vret B hr dX7_goOnLevel_195 (Nat.le_of_ble_eq_true rfl) (Nat.le_of_ble_eq_true rfl) () trivial [0, 1, 2, 3, 4] rfl (by simp only [d_lv, d_ls, d_ll, if_neg c_2, if_neg c_6, if_pos c_10]; rfl)
  refine g_tabOut (tgt := 152) B dX7_goOnLevel_18 (by have nc_2 := ine c_2; have nc_6 := ine c_6; have nc_10 := ine c_10; simp only [it_1, it_2, it_3] at nc_2 nc_6 nc_10; omega) (by decide) ?_
  refine g_aload_n B 0 1 dX7_goOnLevel_152 rfl rfl ?_
  refine g_get (C := RX7) (T := TX7) (N := 35) B 6 0 3 (.ref (dd 4)) in_X7 rfl q916 rfl (Nat.le_of_ble_eq_true rfl) (fun _ h9 => h9) rfl dX7_goOnLevel_153 ?_
  refine g_iload_n B 1 2 dX7_goOnLevel_156 rfl rfl ?_
  refine g_iconst (v := 0) B dX7_goOnLevel_157 kc_0 ?_
  refine g_aload_n B 0 1 dX7_goOnLevel_158 rfl rfl ?_
  refine g_get (C := RX7) (T := TX7) (N := 35) B 6 0 3 (.ref (dd 4)) in_X7 rfl q916 rfl (Nat.le_of_ble_eq_true rfl) (fun _ h9 => h9) rfl dX7_goOnLevel_159 ?_
  refine g_iload_n B 1 2 dX7_goOnLevel_162 rfl rfl ?_
  refine g_iald B 3 v rfl (nI_clamp (by omega)) (vp_in_nI (by omega) (by omega)) dX7_goOnLevel_163 ?_
  refine g_ldc (v := 1000000) B dX7_goOnLevel_164 q1210 ?_
  refine g_aload_n B 0 1 dX7_goOnLevel_166 rfl rfl ?_
  refine g_iload_n B 1 2 dX7_goOnLevel_167 rfl rfl ?_
  refine g_bipush (v := 7) B dX7_goOnLevel_168 kb_7 ?_
  refine g_cuV_i (C := RX7) (T := TX7) (N := 35) (As := [.int (nI v), .int 7]) B (m_X7_told l hst g dd di sm (da 2) (da 5) v 7 hv ho (vpc rfl)) 6 0 rfl rfl [0, 1, 4] [.int 1000000, .int ((da 4) v), .int 0, .int (nI v), .ref (dd 4)] (lw_V q1206 q1208 qs22 q39 q1209) nvX7_told rfl rfl rfl rfl (Nat.le_of_ble_eq_true rfl) dX7_goOnLevel_170 ⟨Nat.le_of_ble_eq_true rfl, Nat.le_of_ble_eq_true rfl⟩ ⟨Nat.le_of_ble_eq_true rfl, Nat.le_of_ble_eq_true rfl⟩ (fun r_11 ur_11 hr_11 => ?_)
  have hr_11 : r_11 = d_qa da v 7 := hr_11
  refine g_idiv B dX7_goOnLevel_173 (by rw [hr_11]; exact z7) ?_
  refine g_isub B dX7_goOnLevel_174 ?_
  refine g_mmax B q1212 q220 q33 q221 (Nat.le_of_ble_eq_true rfl) (Nat.le_of_ble_eq_true rfl) (Nat.le_of_ble_eq_true rfl) (Nat.le_of_ble_eq_true rfl) dX7_goOnLevel_175 ?_
  refine g_topi (fun x_12 ex_12 => ?_)
  replace ex_12 : x_12 = (pmx 0 (((da 4) v) - (1000000 / r_11))) := ex_12
  refine g_iast B 3 v [((dd 0), cD dd di sm), ((dd 2), .inl (g.2.1, 48, .inl (da 2))), ((dd 3), .inl (g.2.1, 4, .inl (da 3))), ((dd 4), .inl (g.2.1, 4, .inl (upd (da 4) v x_12))), ((dd 5), .inl (g.2.1, 4, .inl (da 5)))] rfl (nI_clamp (by omega)) (vp_in_nI (by omega) (by omega)) rfl dX7_goOnLevel_178 ?_
  refine g_aload_n B 0 1 dX7_goOnLevel_179 rfl rfl ?_
  refine g_get (C := RX7) (T := TX7) (N := 35) B 6 0 3 (.ref (dd 4)) in_X7 rfl q916 rfl (Nat.le_of_ble_eq_true rfl) (fun _ h9 => h9) rfl dX7_goOnLevel_180 ?_
  refine g_iload_n B 1 2 dX7_goOnLevel_183 rfl rfl ?_
  refine g_iald B 3 v rfl (nI_clamp (by omega)) (vp_in_nI (by omega) (by omega)) dX7_goOnLevel_184 ?_
  refine g_eqs (st' := [.int x_12]) (congrArg (fun z => Value.int z :: _) pk_us) ?_
  refine g_if_ne (tgt := 195) B dX7_goOnLevel_185 (by decide) (fun c_13 => ?_) (fun c_13 => ?_)
  · skip
    subst hr_1
    subst hr_11
    subst ex_12
    exact g_vret B hr dX7_goOnLevel_195 (Nat.le_of_ble_eq_true rfl) (Nat.le_of_ble_eq_true rfl) () trivial [0, 1, 2, 3, 4] rfl (by simp only [d_lv, d_ls, d_ll, if_neg c_2, if_neg c_6, if_neg c_10, if_neg c_13]; rfl)
  · skip
    refine g_aload_n B 0 1 dX7_goOnLevel_188 rfl rfl ?_
    refine g_get (C := RX7) (T := TX7) (N := 35) B 6 0 2 (.ref (dd 3)) in_X7 rfl q914 rfl (Nat.le_of_ble_eq_true rfl) (fun _ h9 => h9) rfl dX7_goOnLevel_189 ?_
    refine g_iload_n B 1 2 dX7_goOnLevel_192 rfl rfl ?_
    refine g_iconst (v := 0) B dX7_goOnLevel_193 kc_0 ?_
    refine g_iast B 2 v [((dd 0), cD dd di sm), ((dd 2), .inl (g.2.1, 48, .inl (da 2))), ((dd 3), .inl (g.2.1, 4, .inl (upd (da 3) v 0))), ((dd 4), .inl (g.2.1, 4, .inl (upd (da 4) v x_12))), ((dd 5), .inl (g.2.1, 4, .inl (da 5)))] rfl (nI_clamp (by omega)) (vp_in_nI (by omega) (by omega)) rfl dX7_goOnLevel_194 ?_
    subst hr_1
    subst hr_11
    subst ex_12
    exact g_vret B hr dX7_goOnLevel_195 (Nat.le_of_ble_eq_true rfl) (Nat.le_of_ble_eq_true rfl) () trivial [0, 1, 2, 3, 4] rfl (by simp only [d_lv, d_ls, d_ll, if_neg c_2, if_neg c_6, if_neg c_10, if_pos c_13]; rfl)

set_option maxHeartbeats 4000000 in
set_option maxRecDepth 100000 in
theorem m_X7_gives (l : Launch) (hst : l.stackTraces = false) (g : gG) (dd : Nat → Nat) (di : Nat → Int32) (sm : Int64) (da : Nat → Nat → Int32) (v : Nat) (hv : v < 4) (hV : vp_in (da 5 v) 4 ∧ vp_in (da 6 v) 48 ∧ vp_in (da 8 v) 65536 ∧ vp_in (da 9 v) 65536) (hQ : IOK (fun j => d_qa da v (nI j))) (hc : ¬ di 12 < 0) : gMi l yX7_gives cX7_gives 7 .int 2 47 1 12 g [((dd 0), cD dd di sm), ((dd 1), .inl (g.2.1, 32, .inl (da 1))), ((dd 2), .inl (g.2.1, 48, .inl (da 2))), ((dd 3), .inl (g.2.1, 4, .inl (da 3))), ((dd 4), .inl (g.2.1, 4, .inl (da 4))), ((dd 5), .inl (g.2.1, 4, .inl (da 5))), ((dd 6), .inl (g.2.1, 4, .inl (da 6))), ((dd 7), .inl (g.2.1, 4, .inl (da 7))), ((dd 8), .inl (g.2.1, 4, .inl (da 8))), ((dd 9), .inl (g.2.1, 4, .inl (da 9))), ((dd 10), .inl (g.2.1, 4, .inl (da 10))), ((dd 11), .inl (g.2.1, 4, .inl (da 11)))] [.ref (dd 0), .int (nI v)] (fun (r : Int32) (_ : Unit) => r = d_gr da v) (fun _ : Unit => [((dd 0), cD dd di sm), ((dd 1), .inl (g.2.1, 32, .inl ((d_gv (di 12) da v) 1))), ((dd 2), .inl (g.2.1, 48, .inl ((d_gv (di 12) da v) 2))), ((dd 3), .inl (g.2.1, 4, .inl ((d_gv (di 12) da v) 3))), ((dd 4), .inl (g.2.1, 4, .inl ((d_gv (di 12) da v) 4))), ((dd 5), .inl (g.2.1, 4, .inl ((d_gv (di 12) da v) 5))), ((dd 6), .inl (g.2.1, 4, .inl ((d_gv (di 12) da v) 6))), ((dd 7), .inl (g.2.1, 4, .inl ((d_gv (di 12) da v) 7))), ((dd 8), .inl (g.2.1, 4, .inl ((d_gv (di 12) da v) 8))), ((dd 9), .inl (g.2.1, 4, .inl ((d_gv (di 12) da v) 9))), ((dd 10), .inl (g.2.1, 4, .inl ((d_gv (di 12) da v) 10))), ((dd 11), .inl (g.2.1, 4, .inl ((d_gv (di 12) da v) 11)))]) := by
  intro sz
  refine g_ent (by decide) hst [(0, .ref (dd 0)), (1, .int (nI v))] (Nat.le_of_ble_eq_true rfl) rfl ?_
  intro p e s m below meth c B hr hnm hsz
  have B : gB p l s m ([.ref (dd 0), .int (nI v)] : List Value).toArray meth c RX7 cX7_gives 7 g (va_A [((dd 0), cD dd di sm), ((dd 1), .inl (g.2.1, 32, .inl (da 1))), ((dd 2), .inl (g.2.1, 48, .inl (da 2))), ((dd 3), .inl (g.2.1, 4, .inl (da 3))), ((dd 4), .inl (g.2.1, 4, .inl (da 4))), ((dd 5), .inl (g.2.1, 4, .inl (da 5))), ((dd 6), .inl (g.2.1, 4, .inl (da 6))), ((dd 7), .inl (g.2.1, 4, .inl (da 7))), ((dd 8), .inl (g.2.1, 4, .inl (da 8))), ((dd 9), .inl (g.2.1, 4, .inl (da 9))), ((dd 10), .inl (g.2.1, 4, .inl (da 10))), ((dd 11), .inl (g.2.1, 4, .inl (da 11)))] sz) := B
  refine g_aload_n B 0 0 dX7_gives_0 rfl rfl ?_
  refine g_get (C := RX7) (T := TX7) (N := 35) B 6 0 2 (.ref (dd 3)) in_X7 rfl q914 rfl (Nat.le_of_ble_eq_true rfl) (fun _ h9 => h9) rfl dX7_gives_1 ?_
  refine g_iload_n B 1 1 dX7_gives_4 rfl rfl ?_
  refine g_iald B 3 v rfl (nI_clamp (by omega)) (vp_in_nI (by omega) (by omega)) dX7_gives_5 ?_
  refine g_if_ne (tgt := 11) B dX7_gives_6 (by decide) (fun c_1 => ?_) (fun c_1 => ?_)
  · skip
    refine g_aload_n B 0 0 dX7_gives_11 rfl rfl ?_
    refine g_iload_n B 1 1 dX7_gives_12 rfl rfl ?_
    refine g_cV_v (C := RX7) (T := TX7) (N := 35) (As := [.int (nI v)]) B (m_X7_goOnLevel l hst g dd di sm da v hv hV.1 hQ.z4 hQ.z5 hQ.z7) 6 0 rfl rfl [0, 2, 3, 4, 5] [] (lw_V q1202 q1204 qs21 q39 q1205) nvX7_goOnLevel rfl rfl (fun _ => rfl) rfl rfl (Nat.le_of_ble_eq_true rfl) dX7_gives_13 ⟨Nat.le_of_ble_eq_true rfl, Nat.le_of_ble_eq_true rfl⟩ ⟨Nat.le_of_ble_eq_true rfl, Nat.le_of_ble_eq_true rfl⟩ (fun ur_2 hr_2 => ?_)
    refine g_eqw (ws' := [((dd 0), cD dd di sm), ((dd 1), .inl (g.2.1, 32, .inl (da 1))), ((dd 2), .inl (g.2.1, 48, .inl ((d_lv da v) 2))), ((dd 3), .inl (g.2.1, 4, .inl ((d_lv da v) 3))), ((dd 4), .inl (g.2.1, 4, .inl ((d_lv da v) 4))), ((dd 5), .inl (g.2.1, 4, .inl ((d_lv da v) 5))), ((dd 6), .inl (g.2.1, 4, .inl (da 6))), ((dd 7), .inl (g.2.1, 4, .inl (da 7))), ((dd 8), .inl (g.2.1, 4, .inl (da 8))), ((dd 9), .inl (g.2.1, 4, .inl (da 9))), ((dd 10), .inl (g.2.1, 4, .inl (da 10))), ((dd 11), .inl (g.2.1, 4, .inl (da 11)))]) rfl ?_
    refine g_eqw (ws' := [((dd 0), cD dd di sm), ((dd 1), .inl (g.2.1, 32, .inl ((d_lv da v) 1))), ((dd 2), .inl (g.2.1, 48, .inl ((d_lv da v) 2))), ((dd 3), .inl (g.2.1, 4, .inl ((d_lv da v) 3))), ((dd 4), .inl (g.2.1, 4, .inl ((d_lv da v) 4))), ((dd 5), .inl (g.2.1, 4, .inl ((d_lv da v) 5))), ((dd 6), .inl (g.2.1, 4, .inl ((d_lv da v) 6))), ((dd 7), .inl (g.2.1, 4, .inl ((d_lv da v) 7))), ((dd 8), .inl (g.2.1, 4, .inl ((d_lv da v) 8))), ((dd 9), .inl (g.2.1, 4, .inl ((d_lv da v) 9))), ((dd 10), .inl (g.2.1, 4, .inl ((d_lv da v) 10))), ((dd 11), .inl (g.2.1, 4, .inl ((d_lv da v) 11)))]) rfl ?_
    have hQ1 : IOK (fun j => d_qa (d_lv da v) v (nI j)) := hQ
    have hO1 : vp_in (d_lv da v 5 v) 4 := hV.1
    have h61 : vp_in (d_lv da v 6 v) 48 := hV.2.1
    have h81 : vp_in (d_lv da v 8 v) 65536 := hV.2.2.1
    have h91 : vp_in (d_lv da v 9 v) 65536 := hV.2.2.2
    generalize hE1 : d_lv da v = E1 at hQ1 hO1 h61 h81 h91 ⊢
    refine g_aload_n B 0 0 dX7_gives_16 rfl rfl ?_
    refine g_get (C := RX7) (T := TX7) (N := 35) B 6 0 2 (.ref (dd 3)) in_X7 rfl q914 rfl (Nat.le_of_ble_eq_true rfl) (fun _ h9 => h9) rfl dX7_gives_17 ?_
    refine g_iload_n B 1 1 dX7_gives_20 rfl rfl ?_
    refine g_iald B 3 v rfl (nI_clamp (by omega)) (vp_in_nI (by omega) (by omega)) dX7_gives_21 ?_
    refine g_if_ne (tgt := 27) B dX7_gives_22 (by decide) (fun c_3 => ?_) (fun c_3 => ?_)
    · skip
      refine g_aload_n B 0 0 dX7_gives_27 rfl rfl ?_
      refine g_iload_n B 1 1 dX7_gives_28 rfl rfl ?_
      refine g_bipush (v := 11) B dX7_gives_29 kb_11 ?_
      refine g_cuV_i (C := RX7) (T := TX7) (N := 35) (As := [.int (nI v), .int 11]) B (m_X7_told l hst g dd di sm (E1 2) (E1 5) v 11 hv hO1 (vpc rfl)) 6 0 rfl rfl [0, 2, 5] [] (lw_V q1206 q1208 qs22 q39 q1209) nvX7_told rfl rfl rfl rfl (Nat.le_of_ble_eq_true rfl) dX7_gives_31 ⟨Nat.le_of_ble_eq_true rfl, Nat.le_of_ble_eq_true rfl⟩ ⟨Nat.le_of_ble_eq_true rfl, Nat.le_of_ble_eq_true rfl⟩ (fun r_4 ur_4 hr_4 => ?_)
      have hr_4 : r_4 = d_q (E1 2) (E1 5) v 11 := hr_4
      refine g_istore_n B 2 [(2, .int r_4), (0, .ref (dd 0)), (1, .int (nI v))] dX7_gives_34 rfl (Nat.le_of_ble_eq_true rfl) rfl ?_
      refine g_aload_n B 0 1 dX7_gives_35 rfl rfl ?_
      refine g_iload_n B 1 2 dX7_gives_36 rfl rfl ?_
      refine g_bipush (v := 10) B dX7_gives_37 kb_10 ?_
      refine g_cuV_i (C := RX7) (T := TX7) (N := 35) (As := [.int (nI v), .int 10]) B (m_X7_told l hst g dd di sm (E1 2) (E1 5) v 10 hv hO1 (vpc rfl)) 6 0 rfl rfl [0, 2, 5] [] (lw_V q1206 q1208 qs22 q39 q1209) nvX7_told rfl rfl rfl rfl (Nat.le_of_ble_eq_true rfl) dX7_gives_39 ⟨Nat.le_of_ble_eq_true rfl, Nat.le_of_ble_eq_true rfl⟩ ⟨Nat.le_of_ble_eq_true rfl, Nat.le_of_ble_eq_true rfl⟩ (fun r_5 ur_5 hr_5 => ?_)
      have hr_5 : r_5 = d_q (E1 2) (E1 5) v 10 := hr_5
      refine g_aload_n B 0 1 dX7_gives_42 rfl rfl ?_
      refine g_iconst (v := 2) B dX7_gives_43 kc_2 ?_
      refine g_aload_n B 0 1 dX7_gives_44 rfl rfl ?_
      refine g_get (C := RX7) (T := TX7) (N := 35) B 6 0 28 (.int (di 12)) in_X7 rfl q963 rfl (Nat.le_of_ble_eq_true rfl) (fun _ h9 => h9) rfl dX7_gives_45 ?_
      refine g_iload_n B 2 0 dX7_gives_48 rfl rfl ?_
      refine g_irem B dX7_gives_49 (by rw [hr_4]; exact hQ1.z11) ?_
      refine g_ldc (v := 65536) B dX7_gives_50 q1213 ?_
      refine g_imul B dX7_gives_52 ?_
      refine g_iload_n B 2 0 dX7_gives_53 rfl rfl ?_
      refine g_idiv B dX7_gives_54 (by rw [hr_4]; exact hQ1.z11) ?_
      refine g_cuV_i (C := RX7) (T := TX7) (N := 35) (As := [.int 2, .int (((prm (di 12) r_4) * 65536) / r_4)]) B (m_X7_wave l hst g dd di sm (E1 1) 2 (((prm (di 12) r_4) * 65536) / r_4) (pv_1 hc (by rw [hr_4]; exact hQ1.2.2.2.2.2.2.2.2.2.2.2))) 6 0 rfl rfl [0, 1] [.int r_5] (lw_V q1214 q1079 q1080 q39 q1081) nvX7_wave rfl rfl rfl rfl (Nat.le_of_ble_eq_true rfl) dX7_gives_55 ⟨Nat.le_of_ble_eq_true rfl, Nat.le_of_ble_eq_true rfl⟩ ⟨Nat.le_of_ble_eq_true rfl, Nat.le_of_ble_eq_true rfl⟩ (fun r_6 ur_6 hr_6 => ?_)
      have hr_6 : r_6 = pwav (E1 1) 2 (((prm (di 12) r_4) * 65536) / r_4) := hr_6
      refine g_imul B dX7_gives_58 ?_
      refine g_sipush (v := 1000) B dX7_gives_59 ks_1000 ?_
      refine g_idiv B dX7_gives_62 (by decide) ?_
      refine g_topi (fun x_7 ex_7 => ?_)
      refine g_istore_n B 3 [(3, .int x_7), (2, .int r_4), (0, .ref (dd 0)), (1, .int (nI v))] dX7_gives_63 rfl (Nat.le_of_ble_eq_true rfl) rfl ?_
      refine g_aload_n B 0 2 dX7_gives_64 rfl rfl ?_
      refine g_aload_n B 0 2 dX7_gives_65 rfl rfl ?_
      refine g_iload_n B 1 3 dX7_gives_66 rfl rfl ?_
      refine g_iconst (v := 0) B dX7_gives_67 kc_0 ?_
      refine g_cuV_i (C := RX7) (T := TX7) (N := 35) (As := [.int (nI v), .int 0]) B (m_X7_told l hst g dd di sm (E1 2) (E1 5) v 0 hv hO1 (vpc rfl)) 6 0 rfl rfl [0, 2, 5] [.ref (dd 0)] (lw_V q1206 q1208 qs22 q39 q1209) nvX7_told rfl rfl rfl rfl (Nat.le_of_ble_eq_true rfl) dX7_gives_68 ⟨Nat.le_of_ble_eq_true rfl, Nat.le_of_ble_eq_true rfl⟩ ⟨Nat.le_of_ble_eq_true rfl, Nat.le_of_ble_eq_true rfl⟩ (fun r_8 ur_8 hr_8 => ?_)
      have hr_8 : r_8 = d_q (E1 2) (E1 5) v 0 := hr_8
      refine g_aload_n B 0 2 dX7_gives_71 rfl rfl ?_
      refine g_get (C := RX7) (T := TX7) (N := 35) B 6 0 7 (.ref (dd 8)) in_X7 rfl q924 rfl (Nat.le_of_ble_eq_true rfl) (fun _ h9 => h9) rfl dX7_gives_72 ?_
      refine g_iload_n B 1 3 dX7_gives_75 rfl rfl ?_
      refine g_iald B 8 v rfl (nI_clamp (by omega)) (vp_in_nI (by omega) (by omega)) dX7_gives_76 ?_
      refine g_cuV_i (C := RX7) (T := TX7) (N := 35) (As := [.int r_8, .int ((E1 8) v)]) B (m_X7_wave l hst g dd di sm (E1 1) r_8 ((E1 8) v) h81) 6 0 rfl rfl [0, 1] [] (lw_V q1214 q1079 q1080 q39 q1081) nvX7_wave rfl rfl rfl rfl (Nat.le_of_ble_eq_true rfl) dX7_gives_77 ⟨Nat.le_of_ble_eq_true rfl, Nat.le_of_ble_eq_true rfl⟩ ⟨Nat.le_of_ble_eq_true rfl, Nat.le_of_ble_eq_true rfl⟩ (fun r_9 ur_9 hr_9 => ?_)
      have hr_9 : r_9 = pwav (E1 1) r_8 ((E1 8) v) := hr_9
      refine g_bipush (v := 100) B dX7_gives_80 kb_100 ?_
      refine g_aload_n B 0 2 dX7_gives_82 rfl rfl ?_
      refine g_iload_n B 1 3 dX7_gives_83 rfl rfl ?_
      refine g_iconst (v := 3) B dX7_gives_84 kc_3 ?_
      refine g_cuV_i (C := RX7) (T := TX7) (N := 35) (As := [.int (nI v), .int 3]) B (m_X7_told l hst g dd di sm (E1 2) (E1 5) v 3 hv hO1 (vpc rfl)) 6 0 rfl rfl [0, 2, 5] [.int 100, .int r_9] (lw_V q1206 q1208 qs22 q39 q1209) nvX7_told rfl rfl rfl rfl (Nat.le_of_ble_eq_true rfl) dX7_gives_85 ⟨Nat.le_of_ble_eq_true rfl, Nat.le_of_ble_eq_true rfl⟩ ⟨Nat.le_of_ble_eq_true rfl, Nat.le_of_ble_eq_true rfl⟩ (fun r_10 ur_10 hr_10 => ?_)
      have hr_10 : r_10 = d_q (E1 2) (E1 5) v 3 := hr_10
      refine g_isub B dX7_gives_88 ?_
      refine g_imul B dX7_gives_89 ?_
      refine g_aload_n B 0 2 dX7_gives_90 rfl rfl ?_
      refine g_aload_n B 0 2 dX7_gives_91 rfl rfl ?_
      refine g_iload_n B 1 3 dX7_gives_92 rfl rfl ?_
      refine g_iconst (v := 1) B dX7_gives_93 kc_1 ?_
      refine g_cuV_i (C := RX7) (T := TX7) (N := 35) (As := [.int (nI v), .int 1]) B (m_X7_told l hst g dd di sm (E1 2) (E1 5) v 1 hv hO1 (vpc rfl)) 6 0 rfl rfl [0, 2, 5] [.ref (dd 0), .int (r_9 * (100 - r_10))] (lw_V q1206 q1208 qs22 q39 q1209) nvX7_told rfl rfl rfl rfl (Nat.le_of_ble_eq_true rfl) dX7_gives_94 ⟨Nat.le_of_ble_eq_true rfl, Nat.le_of_ble_eq_true rfl⟩ ⟨Nat.le_of_ble_eq_true rfl, Nat.le_of_ble_eq_true rfl⟩ (fun r_11 ur_11 hr_11 => ?_)
      have hr_11 : r_11 = d_q (E1 2) (E1 5) v 1 := hr_11
      refine g_aload_n B 0 2 dX7_gives_97 rfl rfl ?_
      refine g_get (C := RX7) (T := TX7) (N := 35) B 6 0 8 (.ref (dd 9)) in_X7 rfl q926 rfl (Nat.le_of_ble_eq_true rfl) (fun _ h9 => h9) rfl dX7_gives_98 ?_
      refine g_iload_n B 1 3 dX7_gives_101 rfl rfl ?_
      refine g_iald B 9 v rfl (nI_clamp (by omega)) (vp_in_nI (by omega) (by omega)) dX7_gives_102 ?_
      refine g_cuV_i (C := RX7) (T := TX7) (N := 35) (As := [.int r_11, .int ((E1 9) v)]) B (m_X7_wave l hst g dd di sm (E1 1) r_11 ((E1 9) v) h91) 6 0 rfl rfl [0, 1] [.int (r_9 * (100 - r_10))] (lw_V q1214 q1079 q1080 q39 q1081) nvX7_wave rfl rfl rfl rfl (Nat.le_of_ble_eq_true rfl) dX7_gives_103 ⟨Nat.le_of_ble_eq_true rfl, Nat.le_of_ble_eq_true rfl⟩ ⟨Nat.le_of_ble_eq_true rfl, Nat.le_of_ble_eq_true rfl⟩ (fun r_12 ur_12 hr_12 => ?_)
      have hr_12 : r_12 = pwav (E1 1) r_11 ((E1 9) v) := hr_12
      refine g_aload_n B 0 2 dX7_gives_106 rfl rfl ?_
      refine g_iload_n B 1 3 dX7_gives_107 rfl rfl ?_
      refine g_iconst (v := 3) B dX7_gives_108 kc_3 ?_
      refine g_cuV_i (C := RX7) (T := TX7) (N := 35) (As := [.int (nI v), .int 3]) B (m_X7_told l hst g dd di sm (E1 2) (E1 5) v 3 hv hO1 (vpc rfl)) 6 0 rfl rfl [0, 2, 5] [.int r_12, .int (r_9 * (100 - r_10))] (lw_V q1206 q1208 qs22 q39 q1209) nvX7_told rfl rfl rfl rfl (Nat.le_of_ble_eq_true rfl) dX7_gives_109 ⟨Nat.le_of_ble_eq_true rfl, Nat.le_of_ble_eq_true rfl⟩ ⟨Nat.le_of_ble_eq_true rfl, Nat.le_of_ble_eq_true rfl⟩ (fun r_13 ur_13 hr_13 => ?_)
      have hr_13 : r_13 = d_q (E1 2) (E1 5) v 3 := hr_13
      refine g_imul B dX7_gives_112 ?_
      refine g_iadd B dX7_gives_113 ?_
      refine g_bipush (v := 100) B dX7_gives_114 kb_100 ?_
      refine g_idiv B dX7_gives_116 (by decide) ?_
      refine g_topi (fun x_14 ex_14 => ?_)
      refine g_istore B [(4, .int x_14), (3, .int x_7), (2, .int r_4), (0, .ref (dd 0)), (1, .int (nI v))] dX7_gives_117 (Nat.le_of_ble_eq_true rfl) rfl ?_
      refine g_aload_n B 0 3 dX7_gives_119 rfl rfl ?_
      refine g_get (C := RX7) (T := TX7) (N := 35) B 6 0 5 (.ref (dd 6)) in_X7 rfl q920 rfl (Nat.le_of_ble_eq_true rfl) (fun _ h9 => h9) rfl dX7_gives_120 ?_
      refine g_iload_n B 1 4 dX7_gives_123 rfl rfl ?_
      refine g_iald B 6 v rfl (nI_clamp (by omega)) (vp_in_nI (by omega) (by omega)) dX7_gives_124 ?_
      refine g_cuS_i (As := [.int ((E1 6) v)]) B (m_X7_stride l hst g ((E1 6) v) h61) [] [] (lw_S q1215 q1091 q39 q1092) nsX7_stride rfl rfl rfl rfl (Nat.le_of_ble_eq_true rfl) dX7_gives_125 ⟨Nat.le_of_ble_eq_true rfl, Nat.le_of_ble_eq_true rfl⟩ ⟨Nat.le_of_ble_eq_true rfl, Nat.le_of_ble_eq_true rfl⟩ (fun r_15 ur_15 hr_15 => ?_)
      have hr_15 : r_15 = pstr ((E1 6) v) := hr_15
      refine g_istore B [(5, .int r_15), (4, .int x_14), (3, .int x_7), (2, .int r_4), (0, .ref (dd 0)), (1, .int (nI v))] dX7_gives_128 (Nat.le_of_ble_eq_true rfl) rfl ?_
      refine g_aload_n B 0 4 dX7_gives_130 rfl rfl ?_
      refine g_get (C := RX7) (T := TX7) (N := 35) B 6 0 7 (.ref (dd 8)) in_X7 rfl q924 rfl (Nat.le_of_ble_eq_true rfl) (fun _ h9 => h9) rfl dX7_gives_131 ?_
      refine g_iload_n B 1 5 dX7_gives_134 rfl rfl ?_
      refine g_aload_n B 0 4 dX7_gives_135 rfl rfl ?_
      refine g_get (C := RX7) (T := TX7) (N := 35) B 6 0 7 (.ref (dd 8)) in_X7 rfl q924 rfl (Nat.le_of_ble_eq_true rfl) (fun _ h9 => h9) rfl dX7_gives_136 ?_
      refine g_iload_n B 1 5 dX7_gives_139 rfl rfl ?_
      refine g_iald B 8 v rfl (nI_clamp (by omega)) (vp_in_nI (by omega) (by omega)) dX7_gives_140 ?_
      refine g_iload B 0 dX7_gives_141 rfl ?_
      refine g_iadd B dX7_gives_143 ?_
      refine g_iload_n B 3 2 dX7_gives_144 rfl rfl ?_
      refine g_iadd B dX7_gives_145 ?_
      refine g_ldc (v := 65536) B dX7_gives_146 q1213 ?_
      refine g_iadd B dX7_gives_148 ?_
      refine g_ldc (v := 65536) B dX7_gives_149 q1213 ?_
      refine g_irem B dX7_gives_151 (by decide) ?_
      refine g_topi (fun x_16 ex_16 => ?_)
      refine g_iast B 8 v [((dd 0), cD dd di sm), ((dd 1), .inl (g.2.1, 32, .inl (E1 1))), ((dd 2), .inl (g.2.1, 48, .inl (E1 2))), ((dd 3), .inl (g.2.1, 4, .inl (E1 3))), ((dd 4), .inl (g.2.1, 4, .inl (E1 4))), ((dd 5), .inl (g.2.1, 4, .inl (E1 5))), ((dd 6), .inl (g.2.1, 4, .inl (E1 6))), ((dd 7), .inl (g.2.1, 4, .inl (E1 7))), ((dd 8), .inl (g.2.1, 4, .inl (upd (E1 8) v x_16))), ((dd 9), .inl (g.2.1, 4, .inl (E1 9))), ((dd 10), .inl (g.2.1, 4, .inl (E1 10))), ((dd 11), .inl (g.2.1, 4, .inl (E1 11)))] rfl (nI_clamp (by omega)) (vp_in_nI (by omega) (by omega)) rfl dX7_gives_152 ?_
      refine g_aload_n B 0 4 dX7_gives_153 rfl rfl ?_
      refine g_get (C := RX7) (T := TX7) (N := 35) B 6 0 8 (.ref (dd 9)) in_X7 rfl q926 rfl (Nat.le_of_ble_eq_true rfl) (fun _ h9 => h9) rfl dX7_gives_154 ?_
      refine g_iload_n B 1 5 dX7_gives_157 rfl rfl ?_
      refine g_aload_n B 0 4 dX7_gives_158 rfl rfl ?_
      refine g_get (C := RX7) (T := TX7) (N := 35) B 6 0 8 (.ref (dd 9)) in_X7 rfl q926 rfl (Nat.le_of_ble_eq_true rfl) (fun _ h9 => h9) rfl dX7_gives_159 ?_
      refine g_iload_n B 1 5 dX7_gives_162 rfl rfl ?_
      refine g_iald B 9 v rfl (nI_clamp (by omega)) (vp_in_nI (by omega) (by omega)) dX7_gives_163 ?_
      refine g_iload B 0 dX7_gives_164 rfl ?_
      refine g_iadd B dX7_gives_166 ?_
      refine g_iload_n B 3 2 dX7_gives_167 rfl rfl ?_
      refine g_iadd B dX7_gives_168 ?_
      refine g_aload_n B 0 4 dX7_gives_169 rfl rfl ?_
      refine g_iload_n B 1 5 dX7_gives_170 rfl rfl ?_
      refine g_iconst (v := 2) B dX7_gives_171 kc_2 ?_
      refine g_cuV_i (C := RX7) (T := TX7) (N := 35) (As := [.int (nI v), .int 2]) B (m_X7_told l hst g dd di sm (E1 2) (E1 5) v 2 hv hO1 (vpc rfl)) 6 0 rfl rfl [0, 2, 5] [.int ((((E1 9) v) + r_15) + x_7), .int (nI v), .ref (dd 9)] (lw_V q1206 q1208 qs22 q39 q1209) nvX7_told rfl rfl rfl rfl (Nat.le_of_ble_eq_true rfl) dX7_gives_172 ⟨Nat.le_of_ble_eq_true rfl, Nat.le_of_ble_eq_true rfl⟩ ⟨Nat.le_of_ble_eq_true rfl, Nat.le_of_ble_eq_true rfl⟩ (fun r_17 ur_17 hr_17 => ?_)
      have hr_17 : r_17 = d_q (E1 2) (E1 5) v 2 := hr_17
      refine g_iadd B dX7_gives_175 ?_
      refine g_ldc (v := 65536) B dX7_gives_176 q1213 ?_
      refine g_iadd B dX7_gives_178 ?_
      refine g_ldc (v := 65536) B dX7_gives_179 q1213 ?_
      refine g_irem B dX7_gives_181 (by decide) ?_
      refine g_topi (fun x_18 ex_18 => ?_)
      refine g_iast B 9 v [((dd 0), cD dd di sm), ((dd 1), .inl (g.2.1, 32, .inl (E1 1))), ((dd 2), .inl (g.2.1, 48, .inl (E1 2))), ((dd 3), .inl (g.2.1, 4, .inl (E1 3))), ((dd 4), .inl (g.2.1, 4, .inl (E1 4))), ((dd 5), .inl (g.2.1, 4, .inl (E1 5))), ((dd 6), .inl (g.2.1, 4, .inl (E1 6))), ((dd 7), .inl (g.2.1, 4, .inl (E1 7))), ((dd 8), .inl (g.2.1, 4, .inl (upd (E1 8) v x_16))), ((dd 9), .inl (g.2.1, 4, .inl (upd (E1 9) v x_18))), ((dd 10), .inl (g.2.1, 4, .inl (E1 10))), ((dd 11), .inl (g.2.1, 4, .inl (E1 11)))] rfl (nI_clamp (by omega)) (vp_in_nI (by omega) (by omega)) rfl dX7_gives_182 ?_
      refine g_aload_n B 0 4 dX7_gives_183 rfl rfl ?_
      refine g_get (C := RX7) (T := TX7) (N := 35) B 6 0 9 (.ref (dd 10)) in_X7 rfl q928 rfl (Nat.le_of_ble_eq_true rfl) (fun _ h9 => h9) rfl dX7_gives_184 ?_
      refine g_iload_n B 1 5 dX7_gives_187 rfl rfl ?_
      refine g_aload_n B 0 4 dX7_gives_188 rfl rfl ?_
      refine g_get (C := RX7) (T := TX7) (N := 35) B 6 0 9 (.ref (dd 10)) in_X7 rfl q928 rfl (Nat.le_of_ble_eq_true rfl) (fun _ h9 => h9) rfl dX7_gives_189 ?_
      refine g_iload_n B 1 5 dX7_gives_192 rfl rfl ?_
      refine g_iald B 10 v rfl (nI_clamp (by omega)) (vp_in_nI (by omega) (by omega)) dX7_gives_193 ?_
      refine g_aload_n B 0 4 dX7_gives_194 rfl rfl ?_
      refine g_iload_n B 1 5 dX7_gives_195 rfl rfl ?_
      refine g_bipush (v := 8) B dX7_gives_196 kb_8 ?_
      refine g_cuV_i (C := RX7) (T := TX7) (N := 35) (As := [.int (nI v), .int 8]) B (m_X7_told l hst g dd di sm (E1 2) (E1 5) v 8 hv hO1 (vpc rfl)) 6 0 rfl rfl [0, 2, 5] [.int ((E1 10) v), .int (nI v), .ref (dd 10)] (lw_V q1206 q1208 qs22 q39 q1209) nvX7_told rfl rfl rfl rfl (Nat.le_of_ble_eq_true rfl) dX7_gives_198 ⟨Nat.le_of_ble_eq_true rfl, Nat.le_of_ble_eq_true rfl⟩ ⟨Nat.le_of_ble_eq_true rfl, Nat.le_of_ble_eq_true rfl⟩ (fun r_19 ur_19 hr_19 => ?_)
      have hr_19 : r_19 = d_q (E1 2) (E1 5) v 8 := hr_19
      refine g_aload_n B 0 4 dX7_gives_201 rfl rfl ?_
      refine g_get (C := RX7) (T := TX7) (N := 35) B 6 0 10 (.ref (dd 11)) in_X7 rfl q930 rfl (Nat.le_of_ble_eq_true rfl) (fun _ h9 => h9) rfl dX7_gives_202 ?_
      refine g_iload_n B 1 5 dX7_gives_205 rfl rfl ?_
      refine g_iald B 11 v rfl (nI_clamp (by omega)) (vp_in_nI (by omega) (by omega)) dX7_gives_206 ?_
      refine g_imul B dX7_gives_207 ?_
      refine g_sipush (v := 256) B dX7_gives_208 ks_256 ?_
      refine g_idiv B dX7_gives_211 (by decide) ?_
      refine g_iadd B dX7_gives_212 ?_
      refine g_sipush (v := 4000) B dX7_gives_213 ks_4000 ?_
      refine g_cuSN_i (As := [.int (((E1 10) v) + ((r_19 * ((E1 11) v)) / 256)), .int 4000]) B (m_X6_keep l hst g (((E1 10) v) + ((r_19 * ((E1 11) v)) / 256)) 4000) [] [.int (nI v), .ref (dd 10)] (lw_meth q1218) q1216 q38 q1217 nsX6_keep rfl rfl rfl rfl (Nat.le_of_ble_eq_true rfl) dX7_gives_216 ⟨Nat.le_of_ble_eq_true rfl, Nat.le_of_ble_eq_true rfl⟩ ⟨Nat.le_of_ble_eq_true rfl, Nat.le_of_ble_eq_true rfl⟩ (fun r_20 ur_20 hr_20 => ?_)
      have hr_20 : r_20 = pkp (((E1 10) v) + ((r_19 * ((E1 11) v)) / 256)) 4000 := hr_20
      refine g_iast B 10 v [((dd 0), cD dd di sm), ((dd 1), .inl (g.2.1, 32, .inl (E1 1))), ((dd 2), .inl (g.2.1, 48, .inl (E1 2))), ((dd 3), .inl (g.2.1, 4, .inl (E1 3))), ((dd 4), .inl (g.2.1, 4, .inl (E1 4))), ((dd 5), .inl (g.2.1, 4, .inl (E1 5))), ((dd 6), .inl (g.2.1, 4, .inl (E1 6))), ((dd 7), .inl (g.2.1, 4, .inl (E1 7))), ((dd 8), .inl (g.2.1, 4, .inl (upd (E1 8) v x_16))), ((dd 9), .inl (g.2.1, 4, .inl (upd (E1 9) v x_18))), ((dd 10), .inl (g.2.1, 4, .inl (upd (E1 10) v r_20))), ((dd 11), .inl (g.2.1, 4, .inl (E1 11)))] rfl (nI_clamp (by omega)) (vp_in_nI (by omega) (by omega)) rfl dX7_gives_219 ?_
      refine g_iload B 1 dX7_gives_220 rfl ?_
      refine g_aload_n B 0 4 dX7_gives_222 rfl rfl ?_
      refine g_get (C := RX7) (T := TX7) (N := 35) B 6 0 9 (.ref (dd 10)) in_X7 rfl q928 rfl (Nat.le_of_ble_eq_true rfl) (fun _ h9 => h9) rfl dX7_gives_223 ?_
      refine g_iload_n B 1 5 dX7_gives_226 rfl rfl ?_
      refine g_iald B 10 v rfl (nI_clamp (by omega)) (vp_in_nI (by omega) (by omega)) dX7_gives_227 ?_
      refine g_eqs (st' := [.int r_20, .int x_14]) (congrArg (fun z => Value.int z :: _) pk_us) ?_
      refine g_isub B dX7_gives_228 ?_
      refine g_aload_n B 0 4 dX7_gives_229 rfl rfl ?_
      refine g_iload_n B 1 5 dX7_gives_230 rfl rfl ?_
      refine g_bipush (v := 9) B dX7_gives_231 kb_9 ?_
      refine g_cuV_i (C := RX7) (T := TX7) (N := 35) (As := [.int (nI v), .int 9]) B (m_X7_told l hst g dd di sm (E1 2) (E1 5) v 9 hv hO1 (vpc rfl)) 6 0 rfl rfl [0, 2, 5] [.int (x_14 - r_20)] (lw_V q1206 q1208 qs22 q39 q1209) nvX7_told rfl rfl rfl rfl (Nat.le_of_ble_eq_true rfl) dX7_gives_233 ⟨Nat.le_of_ble_eq_true rfl, Nat.le_of_ble_eq_true rfl⟩ ⟨Nat.le_of_ble_eq_true rfl, Nat.le_of_ble_eq_true rfl⟩ (fun r_21 ur_21 hr_21 => ?_)
      have hr_21 : r_21 = d_q (E1 2) (E1 5) v 9 := hr_21
      refine g_aload_n B 0 4 dX7_gives_236 rfl rfl ?_
      refine g_get (C := RX7) (T := TX7) (N := 35) B 6 0 10 (.ref (dd 11)) in_X7 rfl q930 rfl (Nat.le_of_ble_eq_true rfl) (fun _ h9 => h9) rfl dX7_gives_237 ?_
      refine g_iload_n B 1 5 dX7_gives_240 rfl rfl ?_
      refine g_iald B 11 v rfl (nI_clamp (by omega)) (vp_in_nI (by omega) (by omega)) dX7_gives_241 ?_
      refine g_imul B dX7_gives_242 ?_
      refine g_sipush (v := 256) B dX7_gives_243 ks_256 ?_
      refine g_idiv B dX7_gives_246 (by decide) ?_
      refine g_isub B dX7_gives_247 ?_
      refine g_topi (fun x_22 ex_22 => ?_)
      refine g_istore B [(6, .int x_22), (5, .int r_15), (4, .int x_14), (3, .int x_7), (2, .int r_4), (0, .ref (dd 0)), (1, .int (nI v))] dX7_gives_248 (Nat.le_of_ble_eq_true rfl) rfl ?_
      refine g_aload_n B 0 5 dX7_gives_250 rfl rfl ?_
      refine g_get (C := RX7) (T := TX7) (N := 35) B 6 0 10 (.ref (dd 11)) in_X7 rfl q930 rfl (Nat.le_of_ble_eq_true rfl) (fun _ h9 => h9) rfl dX7_gives_251 ?_
      refine g_iload_n B 1 6 dX7_gives_254 rfl rfl ?_
      refine g_aload_n B 0 5 dX7_gives_255 rfl rfl ?_
      refine g_get (C := RX7) (T := TX7) (N := 35) B 6 0 10 (.ref (dd 11)) in_X7 rfl q930 rfl (Nat.le_of_ble_eq_true rfl) (fun _ h9 => h9) rfl dX7_gives_256 ?_
      refine g_iload_n B 1 6 dX7_gives_259 rfl rfl ?_
      refine g_iald B 11 v rfl (nI_clamp (by omega)) (vp_in_nI (by omega) (by omega)) dX7_gives_260 ?_
      refine g_aload_n B 0 5 dX7_gives_261 rfl rfl ?_
      refine g_iload_n B 1 6 dX7_gives_262 rfl rfl ?_
      refine g_bipush (v := 8) B dX7_gives_263 kb_8 ?_
      refine g_cuV_i (C := RX7) (T := TX7) (N := 35) (As := [.int (nI v), .int 8]) B (m_X7_told l hst g dd di sm (E1 2) (E1 5) v 8 hv hO1 (vpc rfl)) 6 0 rfl rfl [0, 2, 5] [.int ((E1 11) v), .int (nI v), .ref (dd 11)] (lw_V q1206 q1208 qs22 q39 q1209) nvX7_told rfl rfl rfl rfl (Nat.le_of_ble_eq_true rfl) dX7_gives_265 ⟨Nat.le_of_ble_eq_true rfl, Nat.le_of_ble_eq_true rfl⟩ ⟨Nat.le_of_ble_eq_true rfl, Nat.le_of_ble_eq_true rfl⟩ (fun r_23 ur_23 hr_23 => ?_)
      have hr_23 : r_23 = d_q (E1 2) (E1 5) v 8 := hr_23
      refine g_iload B 0 dX7_gives_268 rfl ?_
      refine g_imul B dX7_gives_270 ?_
      refine g_sipush (v := 256) B dX7_gives_271 ks_256 ?_
      refine g_idiv B dX7_gives_274 (by decide) ?_
      refine g_iadd B dX7_gives_275 ?_
      refine g_sipush (v := 4000) B dX7_gives_276 ks_4000 ?_
      refine g_cuSN_i (As := [.int (((E1 11) v) + ((r_23 * x_22) / 256)), .int 4000]) B (m_X6_keep l hst g (((E1 11) v) + ((r_23 * x_22) / 256)) 4000) [] [.int (nI v), .ref (dd 11)] (lw_meth q1218) q1216 q38 q1217 nsX6_keep rfl rfl rfl rfl (Nat.le_of_ble_eq_true rfl) dX7_gives_279 ⟨Nat.le_of_ble_eq_true rfl, Nat.le_of_ble_eq_true rfl⟩ ⟨Nat.le_of_ble_eq_true rfl, Nat.le_of_ble_eq_true rfl⟩ (fun r_24 ur_24 hr_24 => ?_)
      have hr_24 : r_24 = pkp (((E1 11) v) + ((r_23 * x_22) / 256)) 4000 := hr_24
      refine g_iast B 11 v [((dd 0), cD dd di sm), ((dd 1), .inl (g.2.1, 32, .inl (E1 1))), ((dd 2), .inl (g.2.1, 48, .inl (E1 2))), ((dd 3), .inl (g.2.1, 4, .inl (E1 3))), ((dd 4), .inl (g.2.1, 4, .inl (E1 4))), ((dd 5), .inl (g.2.1, 4, .inl (E1 5))), ((dd 6), .inl (g.2.1, 4, .inl (E1 6))), ((dd 7), .inl (g.2.1, 4, .inl (E1 7))), ((dd 8), .inl (g.2.1, 4, .inl (upd (E1 8) v x_16))), ((dd 9), .inl (g.2.1, 4, .inl (upd (E1 9) v x_18))), ((dd 10), .inl (g.2.1, 4, .inl (upd (E1 10) v r_20))), ((dd 11), .inl (g.2.1, 4, .inl (upd (E1 11) v r_24)))] rfl (nI_clamp (by omega)) (vp_in_nI (by omega) (by omega)) rfl dX7_gives_282 ?_
      refine g_aload_n B 0 5 dX7_gives_283 rfl rfl ?_
      refine g_get (C := RX7) (T := TX7) (N := 35) B 6 0 9 (.ref (dd 10)) in_X7 rfl q928 rfl (Nat.le_of_ble_eq_true rfl) (fun _ h9 => h9) rfl dX7_gives_284 ?_
      refine g_iload_n B 1 6 dX7_gives_287 rfl rfl ?_
      refine g_iald B 10 v rfl (nI_clamp (by omega)) (vp_in_nI (by omega) (by omega)) dX7_gives_288 ?_
      refine g_eqs (st' := [.int r_20]) (congrArg (fun z => Value.int z :: _) pk_us) ?_
      refine g_aload_n B 0 5 dX7_gives_289 rfl rfl ?_
      refine g_get (C := RX7) (T := TX7) (N := 35) B 6 0 6 (.ref (dd 7)) in_X7 rfl q922 rfl (Nat.le_of_ble_eq_true rfl) (fun _ h9 => h9) rfl dX7_gives_290 ?_
      refine g_iload_n B 1 6 dX7_gives_293 rfl rfl ?_
      refine g_iald B 7 v rfl (nI_clamp (by omega)) (vp_in_nI (by omega) (by omega)) dX7_gives_294 ?_
      refine g_imul B dX7_gives_295 ?_
      refine g_bipush (v := 127) B dX7_gives_296 kb_127 ?_
      refine g_idiv B dX7_gives_298 (by decide) ?_
      refine g_aload_n B 0 5 dX7_gives_299 rfl rfl ?_
      refine g_get (C := RX7) (T := TX7) (N := 35) B 6 0 3 (.ref (dd 4)) in_X7 rfl q916 rfl (Nat.le_of_ble_eq_true rfl) (fun _ h9 => h9) rfl dX7_gives_300 ?_
      refine g_iload_n B 1 6 dX7_gives_303 rfl rfl ?_
      refine g_iald B 4 v rfl (nI_clamp (by omega)) (vp_in_nI (by omega) (by omega)) dX7_gives_304 ?_
      refine g_sipush (v := 1000) B dX7_gives_305 ks_1000 ?_
      refine g_idiv B dX7_gives_308 (by decide) ?_
      refine g_imul B dX7_gives_309 ?_
      refine g_sipush (v := 1000) B dX7_gives_310 ks_1000 ?_
      refine g_idiv B dX7_gives_313 (by decide) ?_
      refine g_topi (fun x_25 ex_25 => ?_)
      subst hE1
      subst hr_4
      subst hr_5
      subst hr_6
      subst ex_7
      subst hr_8
      subst hr_9
      subst hr_10
      subst hr_11
      subst hr_12
      subst hr_13
      subst ex_14
      subst hr_15
      subst ex_16
      subst hr_17
      subst ex_18
      subst hr_19
      subst hr_20
      subst hr_21
      subst ex_22
      subst hr_23
      subst hr_24
      subst ex_25
      exact g_iret B hr dX7_gives_314 (Nat.le_of_ble_eq_true rfl) (Nat.le_of_ble_eq_true rfl) () (by first | (simp only [d_gr, d_gv, if_neg c_1, if_neg c_3]; done) | (simp only [d_gr, d_gv, if_neg c_1, if_neg c_3]; rfl) | rfl) [0, 1, 2, 3, 4, 5, 6, 7, 8, 9, 10, 11] rfl (by first | (simp only [d_gr, d_gv, if_neg c_1, if_neg c_3]; rfl) | rfl)
    · skip
      refine g_iconst (v := 0) B dX7_gives_25 kc_0 ?_
      subst hE1
      exact g_iret B hr dX7_gives_26 (Nat.le_of_ble_eq_true rfl) (Nat.le_of_ble_eq_true rfl) () (by first | (simp only [d_gr, d_gv, if_neg c_1, if_pos c_3]; done) | (simp only [d_gr, d_gv, if_neg c_1, if_pos c_3]; rfl) | rfl) [0, 1, 2, 3, 4, 5, 6, 7, 8, 9, 10, 11] rfl (by first | (simp only [d_gr, d_gv, if_neg c_1, if_pos c_3]; rfl) | rfl)
  · skip
    refine g_iconst (v := 0) B dX7_gives_9 kc_0 ?_
    exact g_iret B hr dX7_gives_10 (Nat.le_of_ble_eq_true rfl) (Nat.le_of_ble_eq_true rfl) () (by first | (simp only [d_gr, d_gv, if_pos c_1]; done) | (simp only [d_gr, d_gv, if_pos c_1]; rfl) | rfl) [0, 1, 2, 3, 4, 5, 6, 7, 8, 9, 10, 11] rfl (by first | (simp only [d_gr, d_gv, if_pos c_1]; rfl) | rfl)
