/-! contracts: the desk, its leaves -/
set_option maxRecDepth 100000

theorem nsX6_isIn : yX6_isIn.cls ≠ "java/lang/invoke/MethodHandle" ∧ yX6_isIn.cls ≠ "java/lang/invoke/VarHandle" ∧ (parseMethodDescriptor yX6_isIn.desc).map (fun d => d.parameters.length) = some 3 := by decide +kernel
theorem nvX7_nextVoice : yX7_nextVoice.cls = RX7 ∧ yX7_nextVoice.cls ≠ "java/lang/invoke/MethodHandle" ∧ yX7_nextVoice.cls ≠ "java/lang/invoke/VarHandle" ∧ (parseMethodDescriptor yX7_nextVoice.desc).map (fun d => d.parameters.length) = some 0 := by decide +kernel
theorem nvX7_value : yX7_value.cls = RX7 ∧ yX7_value.cls ≠ "java/lang/invoke/MethodHandle" ∧ yX7_value.cls ≠ "java/lang/invoke/VarHandle" ∧ (parseMethodDescriptor yX7_value.desc).map (fun d => d.parameters.length) = some 2 := by decide +kernel
set_option maxHeartbeats 4000000 in
set_option maxRecDepth 100000 in
theorem m_X6_isIn (l : Launch) (hst : l.stackTraces = false) (g : gG) (x lo hi : Int32) : gMi l yX6_isIn cX6_isIn 3 .boolean 0 0 0 0 g [] [.int x, .int lo, .int hi] (fun (r : Int32) (_ : Unit) => r = in_z x lo hi) (fun _ : Unit => []) := by
  intro sz
  refine g_ent (by decide) hst [(0, .int x), (1, .int lo), (2, .int hi)] (Nat.le_of_ble_eq_true rfl) rfl ?_
  intro p e s m below meth c B hr hnm hsz
  have B : gB p l s m ([.int x, .int lo, .int hi] : List Value).toArray meth c RX6 cX6_isIn 3 g (va_A [] sz) := B
  refine g_iload_n B 0 0 dX6_isIn_0 rfl rfl ?_
  refine g_iload_n B 1 1 dX6_isIn_1 rfl rfl ?_
  refine g_icmp_lt (tgt := 14) B dX6_isIn_2 (by decide) (fun c_1 => ?_) (fun c_1 => ?_)
  · skip
    refine g_iconst (v := 0) B dX6_isIn_14 kc_0 ?_
    exact g_zret B hr rfl dX6_isIn_15 (Nat.le_of_ble_eq_true rfl) (Nat.le_of_ble_eq_true rfl) () (by first | (simp only [in_z, if_pos c_1]; done) | (simp only [in_z, if_pos c_1]; rfl) | rfl) [] rfl rfl
  · skip
    refine g_iload_n B 0 0 dX6_isIn_5 rfl rfl ?_
    refine g_iload_n B 2 2 dX6_isIn_6 rfl rfl ?_
    refine g_icmp_gt (tgt := 14) B dX6_isIn_7 (by decide) (fun c_2 => ?_) (fun c_2 => ?_)
    · skip
      refine g_iconst (v := 0) B dX6_isIn_14 kc_0 ?_
      exact g_zret B hr rfl dX6_isIn_15 (Nat.le_of_ble_eq_true rfl) (Nat.le_of_ble_eq_true rfl) () (by first | (simp only [in_z, if_neg c_1, if_pos c_2]; done) | (simp only [in_z, if_neg c_1, if_pos c_2]; rfl) | rfl) [] rfl rfl
    · skip
      refine g_iconst (v := 1) B dX6_isIn_10 kc_1 ?_
      refine g_goto (tgt := 15) B dX6_isIn_11 (by decide) ?_
      exact g_zret B hr rfl dX6_isIn_15 (Nat.le_of_ble_eq_true rfl) (Nat.le_of_ble_eq_true rfl) () (by first | (simp only [in_z, if_neg c_1, if_neg c_2]; done) | (simp only [in_z, if_neg c_1, if_neg c_2]; rfl) | rfl) [] rfl rfl

set_option maxHeartbeats 4000000 in
set_option maxRecDepth 100000 in
theorem m_X6_keep (l : Launch) (hst : l.stackTraces = false) (g : gG) (x k : Int32) : gMi l yX6_keep cX6_keep 2 .int 1 24 0 0 g [] [.int x, .int k] (fun (r : Int32) (_ : Unit) => r = pkp x k) (fun _ : Unit => []) := by
  intro sz
  refine g_ent (by decide) hst [(0, .int x), (1, .int k)] (Nat.le_of_ble_eq_true rfl) rfl ?_
  intro p e s m below meth c B hr hnm hsz
  have B : gB p l s m ([.int x, .int k] : List Value).toArray meth c RX6 cX6_keep 2 g (va_A [] sz) := B
  refine g_iload_n B 1 1 dX6_keep_0 rfl rfl ?_
  refine g_ineg B dX6_keep_1 ?_
  refine g_iload_n B 1 1 dX6_keep_2 rfl rfl ?_
  refine g_iload_n B 0 0 dX6_keep_3 rfl rfl ?_
  refine g_mmin B q1219 q251 q33 q252 (Nat.le_of_ble_eq_true rfl) (Nat.le_of_ble_eq_true rfl) (Nat.le_of_ble_eq_true rfl) (Nat.le_of_ble_eq_true rfl) dX6_keep_4 ?_
  refine g_mmax B q1220 q220 q33 q221 (Nat.le_of_ble_eq_true rfl) (Nat.le_of_ble_eq_true rfl) (Nat.le_of_ble_eq_true rfl) (Nat.le_of_ble_eq_true rfl) dX6_keep_7 ?_
  refine g_topi (fun x_1 ex_1 => ?_)
  subst ex_1
  exact g_iret B hr dX6_keep_10 (Nat.le_of_ble_eq_true rfl) (Nat.le_of_ble_eq_true rfl) () rfl [] rfl rfl

set_option maxHeartbeats 4000000 in
set_option maxRecDepth 100000 in
theorem m_X6_put_2 (l : Launch) (hst : l.stackTraces = false) (g : gG) (h0 h1 n : Nat) (f f1 : Nat → Int32) (hn : n < 2 ^ 31) : gMv l yX6_put_2 cX6_put_2 2 1 64 0 0 g [(h0, .inl (g.2.1, n, .inl f)), (h1, .inl (g.2.1, n, .inl f1))] [.ref h0, .ref h1] (fun (_ : Unit) => True) (fun _ : Unit => [(h0, .inl (g.2.1, n, .inl f)), (h1, .inl (g.2.1, n, .inl (va_cpy f f1 0 0 n)))]) := by
  intro sz
  refine g_ent (by decide) hst [(0, .ref h0), (1, .ref h1)] (Nat.le_of_ble_eq_true rfl) rfl ?_
  intro p e s m below meth c B hr hnm hsz
  have B : gB p l s m ([.ref h0, .ref h1] : List Value).toArray meth c RX6 cX6_put_2 2 g (va_A [(h0, .inl (g.2.1, n, .inl f)), (h1, .inl (g.2.1, n, .inl f1))] sz) := B
  refine g_aload_n B 0 0 dX6_put_2_0 rfl rfl ?_
  refine g_iconst (v := 0) B dX6_put_2_1 kc_0 ?_
  refine g_aload_n B 1 1 dX6_put_2_2 rfl rfl ?_
  refine g_iconst (v := 0) B dX6_put_2_3 kc_0 ?_
  refine g_aload_n B 0 0 dX6_put_2_4 rfl rfl ?_
  refine g_alen B 0 (nI n) rfl rfl dX6_put_2_5 ?_
  refine g_copyi B 0 1 [(h0, .inl (g.2.1, n, .inl f)), (h1, .inl (g.2.1, n, .inl (va_cpy f f1 0 0 n)))] q1104 q255 q254 q35 rfl rfl (by decide) (by decide) (nI_pos hn) (by rw [nI_clamp hn]; exact Nat.le_of_eq (Nat.zero_add n)) (by rw [nI_clamp hn]; exact Nat.le_of_eq (Nat.zero_add n)) (Nat.le_of_ble_eq_true rfl) (by decide) (by rw [nI_clamp hn]; rfl) dX6_put_2_6 ?_
  exact g_vret B hr dX6_put_2_9 (Nat.le_of_ble_eq_true rfl) (Nat.le_of_ble_eq_true rfl) () trivial [0, 1] rfl rfl

set_option maxHeartbeats 4000000 in
set_option maxRecDepth 100000 in
theorem m_X7_value (l : Launch) (hst : l.stackTraces = false) (g : gG) (dd : Nat → Nat) (di : Nat → Int32) (sm : Int64) (dr : Nat → Int32) (wa k : Int32) (hk : vp_in k 32) : gMi l yX7_value cX7_value 3 .int 0 0 0 0 g [((dd 0), cD dd di sm), ((dd 1), .inl (g.2.1, 32, .inl dr))] [.ref (dd 0), .int wa, .int k] (fun (r : Int32) (_ : Unit) => r = pval dr wa k) (fun _ : Unit => [((dd 0), cD dd di sm), ((dd 1), .inl (g.2.1, 32, .inl dr))]) := by
  intro sz
  refine g_ent (by decide) hst [(0, .ref (dd 0)), (1, .int wa), (2, .int k)] (Nat.le_of_ble_eq_true rfl) rfl ?_
  intro p e s m below meth c B hr hnm hsz
  have B : gB p l s m ([.ref (dd 0), .int wa, .int k] : List Value).toArray meth c RX7 cX7_value 3 g (va_A [((dd 0), cD dd di sm), ((dd 1), .inl (g.2.1, 32, .inl dr))] sz) := B
  refine g_iload_n B 1 1 dX7_value_0 rfl rfl ?_
  by_cases c_1 : wa = 0
  · skip
    refine g_tabIn (off := 27) (tgt := 28) B dX7_value_1 (by rw [c_1]; decide) (by rw [c_1]; decide) (by rw [c_1]; decide) (by decide) ?_
    refine g_sipush (v := (-992)) B dX7_value_28 ks_m992 ?_
    refine g_bipush (v := 64) B dX7_value_31 kb_64 ?_
    refine g_iload_n B 2 2 dX7_value_33 rfl rfl ?_
    refine g_imul B dX7_value_34 ?_
    refine g_iadd B dX7_value_35 ?_
    refine g_topi (fun x_2 ex_2 => ?_)
    subst ex_2
    exact g_iret B hr dX7_value_36 (Nat.le_of_ble_eq_true rfl) (Nat.le_of_ble_eq_true rfl) () (by first | (simp only [pval, if_pos c_1]; done) | (simp only [pval, if_pos c_1]; rfl) | rfl) [0, 1] rfl rfl
  by_cases c_3 : wa = 1
  · skip
    refine g_tabIn (off := 36) (tgt := 37) B dX7_value_1 (by rw [c_3]; decide) (by rw [c_3]; decide) (by rw [c_3]; decide) (by decide) ?_
    refine g_iload_n B 2 2 dX7_value_37 rfl rfl ?_
    refine g_bipush (v := 16) B dX7_value_38 kb_16 ?_
    refine g_icmp_ge (tgt := 49) B dX7_value_40 (by decide) (fun c_4 => ?_) (fun c_4 => ?_)
    · skip
      refine g_sipush (v := (-1000)) B dX7_value_49 ks_m1000 ?_
      exact g_iret B hr dX7_value_52 (Nat.le_of_ble_eq_true rfl) (Nat.le_of_ble_eq_true rfl) () (by first | (simp only [pval, if_neg c_1, if_pos c_3, if_pos c_4]; done) | (simp only [pval, if_neg c_1, if_pos c_3, if_pos c_4]; rfl) | rfl) [0, 1] rfl rfl
    · skip
      refine g_sipush (v := 1000) B dX7_value_43 ks_1000 ?_
      refine g_goto (tgt := 52) B dX7_value_46 (by decide) ?_
      exact g_iret B hr dX7_value_52 (Nat.le_of_ble_eq_true rfl) (Nat.le_of_ble_eq_true rfl) () (by first | (simp only [pval, if_neg c_1, if_pos c_3, if_neg c_4]; done) | (simp only [pval, if_neg c_1, if_pos c_3, if_neg c_4]; rfl) | rfl) [0, 1] rfl rfl
  by_cases c_5 : wa = 2
  · skip
    refine g_tabIn (off := 52) (tgt := 53) B dX7_value_1 (by rw [c_5]; decide) (by rw [c_5]; decide) (by rw [c_5]; decide) (by decide) ?_
    refine g_iload_n B 2 2 dX7_value_53 rfl rfl ?_
    refine g_bipush (v := 16) B dX7_value_54 kb_16 ?_
    refine g_icmp_ge (tgt := 70) B dX7_value_56 (by decide) (fun c_6 => ?_) (fun c_6 => ?_)
    · skip
      refine g_sipush (v := 1000) B dX7_value_70 ks_1000 ?_
      refine g_bipush (v := 125) B dX7_value_73 kb_125 ?_
      refine g_iload_n B 2 2 dX7_value_75 rfl rfl ?_
      refine g_bipush (v := 16) B dX7_value_76 kb_16 ?_
      refine g_isub B dX7_value_78 ?_
      refine g_imul B dX7_value_79 ?_
      refine g_isub B dX7_value_80 ?_
      refine g_topi (fun x_7 ex_7 => ?_)
      subst ex_7
      exact g_iret B hr dX7_value_81 (Nat.le_of_ble_eq_true rfl) (Nat.le_of_ble_eq_true rfl) () (by first | (simp only [pval, if_neg c_1, if_neg c_3, if_pos c_5, if_pos c_6]; done) | (simp only [pval, if_neg c_1, if_neg c_3, if_pos c_5, if_pos c_6]; rfl) | rfl) [0, 1] rfl rfl
    · skip
      refine g_sipush (v := (-1000)) B dX7_value_59 ks_m1000 ?_
      refine g_bipush (v := 125) B dX7_value_62 kb_125 ?_
      refine g_iload_n B 2 2 dX7_value_64 rfl rfl ?_
      refine g_imul B dX7_value_65 ?_
      refine g_iadd B dX7_value_66 ?_
      refine g_goto (tgt := 81) B dX7_value_67 (by decide) ?_
      refine g_topi (fun x_8 ex_8 => ?_)
      subst ex_8
      exact g_iret B hr dX7_value_81 (Nat.le_of_ble_eq_true rfl) (Nat.le_of_ble_eq_true rfl) () (by first | (simp only [pval, if_neg c_1, if_neg c_3, if_pos c_5, if_neg c_6]; done) | (simp only [pval, if_neg c_1, if_neg c_3, if_pos c_5, if_neg c_6]; rfl) | rfl) [0, 1] rfl rfl
  refine g_tabOut (tgt := 82) B dX7_value_1 (by have nc_1 := ine c_1; have nc_3 := ine c_3; have nc_5 := ine c_5; simp only [it_0, it_1, it_2] at nc_1 nc_3 nc_5; omega) (by decide) ?_
  refine g_aload_n B 0 0 dX7_value_82 rfl rfl ?_
  refine g_get (C := RX7) (T := TX7) (N := 35) B 6 0 0 (.ref (dd 1)) in_X7 rfl q910 rfl (Nat.le_of_ble_eq_true rfl) (fun _ h9 => h9) rfl dX7_value_83 ?_
  refine g_iload_n B 2 2 dX7_value_86 rfl rfl ?_
  refine g_iald B 1 k.toNatClampNeg rfl rfl hk dX7_value_87 ?_
  refine g_topi (fun x_9 ex_9 => ?_)
  subst ex_9
  exact g_iret B hr dX7_value_88 (Nat.le_of_ble_eq_true rfl) (Nat.le_of_ble_eq_true rfl) () (by first | (simp only [pval, if_neg c_1, if_neg c_3, if_neg c_5]; done) | (simp only [pval, if_neg c_1, if_neg c_3, if_neg c_5]; rfl) | rfl) [0, 1] rfl rfl

set_option maxHeartbeats 4000000 in
set_option maxRecDepth 100000 in
theorem m_X7_wave (l : Launch) (hst : l.stackTraces = false) (g : gG) (dd : Nat → Nat) (di : Nat → Int32) (sm : Int64) (dr : Nat → Int32) (wa ph : Int32) (hp : vp_in ph 65536) : gMi l yX7_wave cX7_wave 6 .int 1 22 0 0 g [((dd 0), cD dd di sm), ((dd 1), .inl (g.2.1, 32, .inl dr))] [.ref (dd 0), .int wa, .int ph] (fun (r : Int32) (_ : Unit) => r = pwav dr wa ph) (fun _ : Unit => [((dd 0), cD dd di sm), ((dd 1), .inl (g.2.1, 32, .inl dr))]) := by
  intro sz
  refine g_ent (by decide) hst [(0, .ref (dd 0)), (1, .int wa), (2, .int ph)] (Nat.le_of_ble_eq_true rfl) rfl ?_
  intro p e s m below meth c B hr hnm hsz
  have B : gB p l s m ([.ref (dd 0), .int wa, .int ph] : List Value).toArray meth c RX7 cX7_wave 6 g (va_A [((dd 0), cD dd di sm), ((dd 1), .inl (g.2.1, 32, .inl dr))] sz) := B
  refine g_iload_n B 2 2 dX7_wave_0 rfl rfl ?_
  refine g_sipush (v := 2048) B dX7_wave_1 ks_2048 ?_
  refine g_idiv B dX7_wave_4 (by decide) ?_
  refine g_istore_n B 3 [(3, .int (ph / 2048)), (0, .ref (dd 0)), (1, .int wa), (2, .int ph)] dX7_wave_5 rfl (Nat.le_of_ble_eq_true rfl) rfl ?_
  refine g_aload_n B 0 1 dX7_wave_6 rfl rfl ?_
  refine g_iload_n B 1 2 dX7_wave_7 rfl rfl ?_
  refine g_iload_n B 3 0 dX7_wave_8 rfl rfl ?_
  refine g_cuV_i (C := RX7) (T := TX7) (N := 35) (As := [.int wa, .int (ph / 2048)]) B (m_X7_value l hst g dd di sm dr wa (ph / 2048) (pw_1 hp)) 6 0 rfl rfl [0, 1] [] (lw_V q1082 q1084 qs16 q39 q1085) nvX7_value rfl rfl rfl rfl (Nat.le_of_ble_eq_true rfl) dX7_wave_9 ⟨Nat.le_of_ble_eq_true rfl, Nat.le_of_ble_eq_true rfl⟩ ⟨Nat.le_of_ble_eq_true rfl, Nat.le_of_ble_eq_true rfl⟩ (fun r_1 ur_1 hr_1 => ?_)
  have hr_1 : r_1 = pval dr wa (ph / 2048) := hr_1
  refine g_istore B [(4, .int r_1), (3, .int (ph / 2048)), (0, .ref (dd 0)), (1, .int wa), (2, .int ph)] dX7_wave_12 (Nat.le_of_ble_eq_true rfl) rfl ?_
  refine g_aload_n B 0 2 dX7_wave_14 rfl rfl ?_
  refine g_iload_n B 1 3 dX7_wave_15 rfl rfl ?_
  refine g_iload_n B 3 1 dX7_wave_16 rfl rfl ?_
  refine g_iconst (v := 1) B dX7_wave_17 kc_1 ?_
  refine g_iadd B dX7_wave_18 ?_
  refine g_bipush (v := 32) B dX7_wave_19 kb_32 ?_
  refine g_irem B dX7_wave_21 (by decide) ?_
  refine g_cuV_i (C := RX7) (T := TX7) (N := 35) (As := [.int wa, .int (prm ((ph / 2048) + 1) 32)]) B (m_X7_value l hst g dd di sm dr wa (prm ((ph / 2048) + 1) 32) (pw_2 hp)) 6 0 rfl rfl [0, 1] [] (lw_V q1082 q1084 qs16 q39 q1085) nvX7_value rfl rfl rfl rfl (Nat.le_of_ble_eq_true rfl) dX7_wave_22 ⟨Nat.le_of_ble_eq_true rfl, Nat.le_of_ble_eq_true rfl⟩ ⟨Nat.le_of_ble_eq_true rfl, Nat.le_of_ble_eq_true rfl⟩ (fun r_2 ur_2 hr_2 => ?_)
  have hr_2 : r_2 = pval dr wa (prm ((ph / 2048) + 1) 32) := hr_2
  refine g_istore B [(5, .int r_2), (4, .int r_1), (3, .int (ph / 2048)), (0, .ref (dd 0)), (1, .int wa), (2, .int ph)] dX7_wave_25 (Nat.le_of_ble_eq_true rfl) rfl ?_
  refine g_iload B 1 dX7_wave_27 rfl ?_
  refine g_iload B 0 dX7_wave_29 rfl ?_
  refine g_iload B 1 dX7_wave_31 rfl ?_
  refine g_isub B dX7_wave_33 ?_
  refine g_iload_n B 2 5 dX7_wave_34 rfl rfl ?_
  refine g_sipush (v := 2048) B dX7_wave_35 ks_2048 ?_
  refine g_irem B dX7_wave_38 (by decide) ?_
  refine g_imul B dX7_wave_39 ?_
  refine g_sipush (v := 2048) B dX7_wave_40 ks_2048 ?_
  refine g_idiv B dX7_wave_43 (by decide) ?_
  refine g_iadd B dX7_wave_44 ?_
  refine g_topi (fun x_3 ex_3 => ?_)
  subst hr_1
  subst hr_2
  subst ex_3
  exact g_iret B hr dX7_wave_45 (Nat.le_of_ble_eq_true rfl) (Nat.le_of_ble_eq_true rfl) () rfl [0, 1] rfl rfl

set_option maxHeartbeats 4000000 in
set_option maxRecDepth 100000 in
theorem m_X7_stride (l : Launch) (hst : l.stackTraces = false) (g : gG) (pi : Int32) (hp : vp_in pi 48) : gMi l yX7_stride cX7_stride 2 .int 0 0 1 12 g [] [.int pi] (fun (r : Int32) (_ : Unit) => r = pstr pi) (fun _ : Unit => []) := by
  intro sz
  refine g_ent (by decide) hst [(0, .int pi)] (Nat.le_of_ble_eq_true rfl) rfl ?_
  intro p e s m below meth c B hr hnm hsz
  have B : gB p l s m ([.int pi] : List Value).toArray meth c RX7 cX7_stride 2 g (va_A [] sz) := B
  refine g_bipush (v := 12) B dX7_stride_0 kb_12 ?_
  refine g_newa B 12 q83 (by decide) (by decide) (Nat.le_of_ble_eq_true rfl) (Nat.le_of_ble_eq_true rfl) (Nat.le_of_ble_eq_true rfl) dX7_stride_2 (fun a_1 => ?_)
  refine g_dup B dX7_stride_4 rfl ?_
  refine g_iconst (v := 0) B dX7_stride_5 kc_0 ?_
  refine g_sipush (v := 256) B dX7_stride_6 ks_256 ?_
  refine g_iast B 0 0 [(a_1, .inl (g.2.1, 12, .inl (upd (fun _ => 0) 0 256)))] rfl (by decide) (vpc rfl) rfl dX7_stride_9 ?_
  refine g_dup B dX7_stride_10 rfl ?_
  refine g_iconst (v := 1) B dX7_stride_11 kc_1 ?_
  refine g_sipush (v := 271) B dX7_stride_12 ks_271 ?_
  refine g_iast B 0 1 [(a_1, .inl (g.2.1, 12, .inl (upd (upd (fun _ => 0) 0 256) 1 271)))] rfl (by decide) (vpc rfl) rfl dX7_stride_15 ?_
  refine g_dup B dX7_stride_16 rfl ?_
  refine g_iconst (v := 2) B dX7_stride_17 kc_2 ?_
  refine g_sipush (v := 287) B dX7_stride_18 ks_287 ?_
  refine g_iast B 0 2 [(a_1, .inl (g.2.1, 12, .inl (upd (upd (upd (fun _ => 0) 0 256) 1 271) 2 287)))] rfl (by decide) (vpc rfl) rfl dX7_stride_21 ?_
  refine g_dup B dX7_stride_22 rfl ?_
  refine g_iconst (v := 3) B dX7_stride_23 kc_3 ?_
  refine g_sipush (v := 304) B dX7_stride_24 ks_304 ?_
  refine g_iast B 0 3 [(a_1, .inl (g.2.1, 12, .inl (upd (upd (upd (upd (fun _ => 0) 0 256) 1 271) 2 287) 3 304)))] rfl (by decide) (vpc rfl) rfl dX7_stride_27 ?_
  refine g_dup B dX7_stride_28 rfl ?_
  refine g_iconst (v := 4) B dX7_stride_29 kc_4 ?_
  refine g_sipush (v := 323) B dX7_stride_30 ks_323 ?_
  refine g_iast B 0 4 [(a_1, .inl (g.2.1, 12, .inl (upd (upd (upd (upd (upd (fun _ => 0) 0 256) 1 271) 2 287) 3 304) 4 323)))] rfl (by decide) (vpc rfl) rfl dX7_stride_33 ?_
  refine g_dup B dX7_stride_34 rfl ?_
  refine g_iconst (v := 5) B dX7_stride_35 kc_5 ?_
  refine g_sipush (v := 342) B dX7_stride_36 ks_342 ?_
  refine g_iast B 0 5 [(a_1, .inl (g.2.1, 12, .inl (upd (upd (upd (upd (upd (upd (fun _ => 0) 0 256) 1 271) 2 287) 3 304) 4 323) 5 342)))] rfl (by decide) (vpc rfl) rfl dX7_stride_39 ?_
  refine g_dup B dX7_stride_40 rfl ?_
  refine g_bipush (v := 6) B dX7_stride_41 kb_6 ?_
  refine g_sipush (v := 362) B dX7_stride_43 ks_362 ?_
  refine g_iast B 0 6 [(a_1, .inl (g.2.1, 12, .inl (upd (upd (upd (upd (upd (upd (upd (fun _ => 0) 0 256) 1 271) 2 287) 3 304) 4 323) 5 342) 6 362)))] rfl (by decide) (vpc rfl) rfl dX7_stride_46 ?_
  refine g_dup B dX7_stride_47 rfl ?_
  refine g_bipush (v := 7) B dX7_stride_48 kb_7 ?_
  refine g_sipush (v := 384) B dX7_stride_50 ks_384 ?_
  refine g_iast B 0 7 [(a_1, .inl (g.2.1, 12, .inl (upd (upd (upd (upd (upd (upd (upd (upd (fun _ => 0) 0 256) 1 271) 2 287) 3 304) 4 323) 5 342) 6 362) 7 384)))] rfl (by decide) (vpc rfl) rfl dX7_stride_53 ?_
  refine g_dup B dX7_stride_54 rfl ?_
  refine g_bipush (v := 8) B dX7_stride_55 kb_8 ?_
  refine g_sipush (v := 406) B dX7_stride_57 ks_406 ?_
  refine g_iast B 0 8 [(a_1, .inl (g.2.1, 12, .inl (upd (upd (upd (upd (upd (upd (upd (upd (upd (fun _ => 0) 0 256) 1 271) 2 287) 3 304) 4 323) 5 342) 6 362) 7 384) 8 406)))] rfl (by decide) (vpc rfl) rfl dX7_stride_60 ?_
  refine g_dup B dX7_stride_61 rfl ?_
  refine g_bipush (v := 9) B dX7_stride_62 kb_9 ?_
  refine g_sipush (v := 431) B dX7_stride_64 ks_431 ?_
  refine g_iast B 0 9 [(a_1, .inl (g.2.1, 12, .inl (upd (upd (upd (upd (upd (upd (upd (upd (upd (upd (fun _ => 0) 0 256) 1 271) 2 287) 3 304) 4 323) 5 342) 6 362) 7 384) 8 406) 9 431)))] rfl (by decide) (vpc rfl) rfl dX7_stride_67 ?_
  refine g_dup B dX7_stride_68 rfl ?_
  refine g_bipush (v := 10) B dX7_stride_69 kb_10 ?_
  refine g_sipush (v := 456) B dX7_stride_71 ks_456 ?_
  refine g_iast B 0 10 [(a_1, .inl (g.2.1, 12, .inl (upd (upd (upd (upd (upd (upd (upd (upd (upd (upd (upd (fun _ => 0) 0 256) 1 271) 2 287) 3 304) 4 323) 5 342) 6 362) 7 384) 8 406) 9 431) 10 456)))] rfl (by decide) (vpc rfl) rfl dX7_stride_74 ?_
  refine g_dup B dX7_stride_75 rfl ?_
  refine g_bipush (v := 11) B dX7_stride_76 kb_11 ?_
  refine g_sipush (v := 483) B dX7_stride_78 ks_483 ?_
  refine g_iast B 0 11 [(a_1, .inl (g.2.1, 12, .inl (upd (upd (upd (upd (upd (upd (upd (upd (upd (upd (upd (upd (fun _ => 0) 0 256) 1 271) 2 287) 3 304) 4 323) 5 342) 6 362) 7 384) 8 406) 9 431) 10 456) 11 483)))] rfl (by decide) (vpc rfl) rfl dX7_stride_81 ?_
  refine g_astore_n B 1 [(1, .ref a_1), (0, .int pi)] dX7_stride_82 rfl (Nat.le_of_ble_eq_true rfl) rfl ?_
  refine g_aload_n B 1 0 dX7_stride_83 rfl rfl ?_
  refine g_iload_n B 0 1 dX7_stride_84 rfl rfl ?_
  refine g_bipush (v := 12) B dX7_stride_85 kb_12 ?_
  refine g_irem B dX7_stride_87 (by decide) ?_
  refine g_iald B 0 ((prm pi 12).toNatClampNeg) rfl rfl (ps_1 hp) dX7_stride_88 ?_
  refine g_iload_n B 0 1 dX7_stride_89 rfl rfl ?_
  refine g_bipush (v := 12) B dX7_stride_90 kb_12 ?_
  refine g_idiv B dX7_stride_92 (by decide) ?_
  refine g_ishl B dX7_stride_93 ?_
  refine g_topi (fun x_2 ex_2 => ?_)
  subst ex_2
  exact g_iret B hr dX7_stride_94 (Nat.le_of_ble_eq_true rfl) (Nat.le_of_ble_eq_true rfl) () rfl [] rfl rfl

set_option maxHeartbeats 4000000 in
set_option maxRecDepth 100000 in
theorem m_X7_told (l : Launch) (hst : l.stackTraces = false) (g : gG) (dd : Nat → Nat) (di : Nat → Int32) (sm : Int64) (iw fo : Nat → Int32) (v : Nat) (wh : Int32) (hv : v < 4) (ho : vp_in (fo v) 4) (hw : vp_in wh 12) : gMi l yX7_told cX7_told 3 .int 0 0 0 0 g [((dd 0), cD dd di sm), ((dd 2), .inl (g.2.1, 48, .inl iw)), ((dd 5), .inl (g.2.1, 4, .inl fo))] [.ref (dd 0), .int (nI v), .int wh] (fun (r : Int32) (_ : Unit) => r = d_q iw fo v wh) (fun _ : Unit => [((dd 0), cD dd di sm), ((dd 2), .inl (g.2.1, 48, .inl iw)), ((dd 5), .inl (g.2.1, 4, .inl fo))]) := by
  intro sz
  refine g_ent (by decide) hst [(0, .ref (dd 0)), (1, .int (nI v)), (2, .int wh)] (Nat.le_of_ble_eq_true rfl) rfl ?_
  intro p e s m below meth c B hr hnm hsz
  have B : gB p l s m ([.ref (dd 0), .int (nI v), .int wh] : List Value).toArray meth c RX7 cX7_told 3 g (va_A [((dd 0), cD dd di sm), ((dd 2), .inl (g.2.1, 48, .inl iw)), ((dd 5), .inl (g.2.1, 4, .inl fo))] sz) := B
  refine g_aload_n B 0 0 dX7_told_0 rfl rfl ?_
  refine g_get (C := RX7) (T := TX7) (N := 35) B 6 0 1 (.ref (dd 2)) in_X7 rfl q912 rfl (Nat.le_of_ble_eq_true rfl) (fun _ h9 => h9) rfl dX7_told_1 ?_
  refine g_aload_n B 0 0 dX7_told_4 rfl rfl ?_
  refine g_get (C := RX7) (T := TX7) (N := 35) B 6 0 4 (.ref (dd 5)) in_X7 rfl q918 rfl (Nat.le_of_ble_eq_true rfl) (fun _ h9 => h9) rfl dX7_told_5 ?_
  refine g_iload_n B 1 1 dX7_told_8 rfl rfl ?_
  refine g_iald B 2 v rfl (nI_clamp (by omega)) (vp_in_nI (by omega) (by omega)) dX7_told_9 ?_
  refine g_bipush (v := 12) B dX7_told_10 kb_12 ?_
  refine g_imul B dX7_told_12 ?_
  refine g_iload_n B 2 2 dX7_told_13 rfl rfl ?_
  refine g_iadd B dX7_told_14 ?_
  refine g_iald B 1 ((((fo v) * 12) + wh).toNatClampNeg) rfl rfl (d_q_in ho hw) dX7_told_15 ?_
  refine g_topi (fun x_1 ex_1 => ?_)
  subst ex_1
  exact g_iret B hr dX7_told_16 (Nat.le_of_ble_eq_true rfl) (Nat.le_of_ble_eq_true rfl) () rfl [0, 1, 2] rfl rfl

set_option maxHeartbeats 4000000 in
set_option maxRecDepth 100000 in
theorem m_X7_end (l : Launch) (hst : l.stackTraces = false) (g : gG) (dd : Nat → Nat) (di : Nat → Int32) (sm : Int64) (sa : Nat → Int32) (v : Nat) (hv : v < 4) : gMv l yX7_end cX7_end 2 1 22 0 0 g [((dd 0), cD dd di sm), ((dd 3), .inl (g.2.1, 4, .inl sa))] [.ref (dd 0), .int (nI v)] (fun (_ : Unit) => True) (fun _ : Unit => [((dd 0), cD dd di sm), ((dd 3), .inl (g.2.1, 4, .inl (d_end sa v)))]) := by
  intro sz
  refine g_ent (by decide) hst [(0, .ref (dd 0)), (1, .int (nI v))] (Nat.le_of_ble_eq_true rfl) rfl ?_
  intro p e s m below meth c B hr hnm hsz
  have B : gB p l s m ([.ref (dd 0), .int (nI v)] : List Value).toArray meth c RX7 cX7_end 2 g (va_A [((dd 0), cD dd di sm), ((dd 3), .inl (g.2.1, 4, .inl sa))] sz) := B
  refine g_aload_n B 0 0 dX7_end_0 rfl rfl ?_
  refine g_get (C := RX7) (T := TX7) (N := 35) B 6 0 2 (.ref (dd 3)) in_X7 rfl q914 rfl (Nat.le_of_ble_eq_true rfl) (fun _ h9 => h9) rfl dX7_end_1 ?_
  refine g_iload_n B 1 1 dX7_end_4 rfl rfl ?_
  refine g_iald B 1 v rfl (nI_clamp (by omega)) (vp_in_nI (by omega) (by omega)) dX7_end_5 ?_
  refine g_iconst (v := 1) B dX7_end_6 kc_1 ?_
  refine g_iconst (v := 3) B dX7_end_7 kc_3 ?_
  refine g_cuSN_i (As := [.int (sa v), .int 1, .int 3]) B (m_X6_isIn l hst g (sa v) 1 3) [] [] (lw_meth q1065) q1148 q38 q1064 nsX6_isIn rfl rfl rfl rfl (Nat.le_of_ble_eq_true rfl) dX7_end_8 ⟨Nat.le_of_ble_eq_true rfl, Nat.le_of_ble_eq_true rfl⟩ ⟨Nat.le_of_ble_eq_true rfl, Nat.le_of_ble_eq_true rfl⟩ (fun r_1 ur_1 hr_1 => ?_)
  have hr_1 : r_1 = in_z (sa v) 1 3 := hr_1
  refine g_if_eq (tgt := 21) B dX7_end_11 (by decide) (fun c_2 => ?_) (fun c_2 => ?_)
  · skip
    subst hr_1
    exact g_vret B hr dX7_end_21 (Nat.le_of_ble_eq_true rfl) (Nat.le_of_ble_eq_true rfl) () trivial [0, 1] rfl (by first | (simp only [d_end, if_pos c_2]; rfl) | rfl)
  · skip
    refine g_aload_n B 0 0 dX7_end_14 rfl rfl ?_
    refine g_get (C := RX7) (T := TX7) (N := 35) B 6 0 2 (.ref (dd 3)) in_X7 rfl q914 rfl (Nat.le_of_ble_eq_true rfl) (fun _ h9 => h9) rfl dX7_end_15 ?_
    refine g_iload_n B 1 1 dX7_end_18 rfl rfl ?_
    refine g_iconst (v := 4) B dX7_end_19 kc_4 ?_
    refine g_iast B 1 v [((dd 0), cD dd di sm), ((dd 3), .inl (g.2.1, 4, .inl (upd sa v 4)))] rfl (nI_clamp (by omega)) (vp_in_nI (by omega) (by omega)) rfl dX7_end_20 ?_
    subst hr_1
    exact g_vret B hr dX7_end_21 (Nat.le_of_ble_eq_true rfl) (Nat.le_of_ble_eq_true rfl) () trivial [0, 1] rfl (by first | (simp only [d_end, if_neg c_2]; rfl) | rfl)

set_option maxHeartbeats 4000000 in
set_option maxRecDepth 100000 in
theorem m_X7_sounding (l : Launch) (hst : l.stackTraces = false) (g : gG) (dd : Nat → Nat) (di : Nat → Int32) (sm : Int64) (sa : Nat → Int32) : gMi l yX7_sounding cX7_sounding 3 .int 0 0 0 0 g [((dd 0), cD dd di sm), ((dd 3), .inl (g.2.1, 4, .inl sa))] [.ref (dd 0)] (fun (r : Int32) (_ : Unit) => r = d_snd sa) (fun _ : Unit => [((dd 0), cD dd di sm), ((dd 3), .inl (g.2.1, 4, .inl sa))]) := by
  intro sz
  refine g_ent (by decide) hst [(0, .ref (dd 0))] (Nat.le_of_ble_eq_true rfl) rfl ?_
  intro p e s m below meth c B hr hnm hsz
  have B : gB p l s m ([.ref (dd 0)] : List Value).toArray meth c RX7 cX7_sounding 3 g (va_A [((dd 0), cD dd di sm), ((dd 3), .inl (g.2.1, 4, .inl sa))] sz) := B
  refine g_iconst (v := 0) B dX7_sounding_0 kc_0 ?_
  refine g_istore_n B 1 [(1, .int 0), (0, .ref (dd 0))] dX7_sounding_1 rfl (Nat.le_of_ble_eq_true rfl) rfl ?_
  refine g_iconst (v := 0) B dX7_sounding_2 kc_0 ?_
  refine g_istore_n B 2 [(2, .int 0), (1, .int 0), (0, .ref (dd 0))] dX7_sounding_3 rfl (Nat.le_of_ble_eq_true rfl) rfl ?_
  refine g_iload_n B 2 0 dX7_sounding_4 rfl rfl ?_
  refine g_iconst (v := 4) B dX7_sounding_5 kc_4 ?_
  refine g_icmp_ge_F (tgt := 32) B dX7_sounding_6 (by decide) (by decide) ?_
  refine g_iload_n B 1 1 dX7_sounding_9 rfl rfl ?_
  refine g_aload_n B 0 2 dX7_sounding_10 rfl rfl ?_
  refine g_get (C := RX7) (T := TX7) (N := 35) B 6 0 2 (.ref (dd 3)) in_X7 rfl q914 rfl (Nat.le_of_ble_eq_true rfl) (fun _ h9 => h9) rfl dX7_sounding_11 ?_
  refine g_iload_n B 2 0 dX7_sounding_14 rfl rfl ?_
  refine g_iald B 1 0 rfl (by decide) (vpc rfl) dX7_sounding_15 ?_
  have j_2 : ∀ (x_3 : Int32), x_3 = mk_c (sa 0) → gW p l e (gRm 0 0 0 0) s m ([.ref (dd 0)] : List Value).toArray below meth c (MQ below (va_Qi (fun (r : Int32) (_ : Unit) => r = d_snd sa) (fun u t => gE g (va_A [((dd 0), cD dd di sm), ((dd 3), .inl (g.2.1, 4, .inl sa))] sz) ((fun _ : Unit => [((dd 0), cD dd di sm), ((dd 3), .inl (g.2.1, 4, .inl sa))]) u) t) (va_A [((dd 0), cD dd di sm), ((dd 3), .inl (g.2.1, 4, .inl sa))] sz)) ([.ref (dd 0)] : List Value).toArray s 0 0 (va_A [((dd 0), cD dd di sm), ((dd 3), .inl (g.2.1, 4, .inl sa))] sz)) 3 g (va_A [((dd 0), cD dd di sm), ((dd 3), .inl (g.2.1, 4, .inl sa))] sz) [((dd 0), cD dd di sm), ((dd 3), .inl (g.2.1, 4, .inl sa))] [(2, .int 0), (1, .int 0), (0, .ref (dd 0))] [.int x_3, .int 0] 24 0 0 := by
    intro x_3 ex_3
    refine g_iadd B dX7_sounding_24 ?_
    refine g_istore_n B 1 [(1, .int (0 + x_3)), (2, .int 0), (0, .ref (dd 0))] dX7_sounding_25 rfl (Nat.le_of_ble_eq_true rfl) rfl ?_
    refine g_iinc B 1 1 [(2, .int 1), (1, .int (0 + x_3)), (0, .ref (dd 0))] dX7_sounding_26 rfl (by decide) (Nat.le_of_ble_eq_true rfl) rfl ?_
    refine g_goto (tgt := 4) B dX7_sounding_29 (by decide) ?_
    refine g_iload_n B 2 0 dX7_sounding_4 rfl rfl ?_
    refine g_iconst (v := 4) B dX7_sounding_5 kc_4 ?_
    refine g_icmp_ge_F (tgt := 32) B dX7_sounding_6 (by decide) (by decide) ?_
    refine g_iload_n B 1 1 dX7_sounding_9 rfl rfl ?_
    refine g_aload_n B 0 2 dX7_sounding_10 rfl rfl ?_
    refine g_get (C := RX7) (T := TX7) (N := 35) B 6 0 2 (.ref (dd 3)) in_X7 rfl q914 rfl (Nat.le_of_ble_eq_true rfl) (fun _ h9 => h9) rfl dX7_sounding_11 ?_
    refine g_iload_n B 2 0 dX7_sounding_14 rfl rfl ?_
    refine g_iald B 1 1 rfl (by decide) (vpc rfl) dX7_sounding_15 ?_
    have j_5 : ∀ (x_6 : Int32), x_6 = mk_c (sa 1) → gW p l e (gRm 0 0 0 0) s m ([.ref (dd 0)] : List Value).toArray below meth c (MQ below (va_Qi (fun (r : Int32) (_ : Unit) => r = d_snd sa) (fun u t => gE g (va_A [((dd 0), cD dd di sm), ((dd 3), .inl (g.2.1, 4, .inl sa))] sz) ((fun _ : Unit => [((dd 0), cD dd di sm), ((dd 3), .inl (g.2.1, 4, .inl sa))]) u) t) (va_A [((dd 0), cD dd di sm), ((dd 3), .inl (g.2.1, 4, .inl sa))] sz)) ([.ref (dd 0)] : List Value).toArray s 0 0 (va_A [((dd 0), cD dd di sm), ((dd 3), .inl (g.2.1, 4, .inl sa))] sz)) 3 g (va_A [((dd 0), cD dd di sm), ((dd 3), .inl (g.2.1, 4, .inl sa))] sz) [((dd 0), cD dd di sm), ((dd 3), .inl (g.2.1, 4, .inl sa))] [(2, .int 1), (1, .int (0 + x_3)), (0, .ref (dd 0))] [.int x_6, .int (0 + x_3)] 24 0 0 := by
      intro x_6 ex_6
      refine g_iadd B dX7_sounding_24 ?_
      refine g_topi (fun x_7 ex_7 => ?_)
      refine g_istore_n B 1 [(1, .int x_7), (2, .int 1), (0, .ref (dd 0))] dX7_sounding_25 rfl (Nat.le_of_ble_eq_true rfl) rfl ?_
      refine g_iinc B 1 2 [(2, .int 2), (1, .int x_7), (0, .ref (dd 0))] dX7_sounding_26 rfl (by decide) (Nat.le_of_ble_eq_true rfl) rfl ?_
      refine g_goto (tgt := 4) B dX7_sounding_29 (by decide) ?_
      refine g_iload_n B 2 0 dX7_sounding_4 rfl rfl ?_
      refine g_iconst (v := 4) B dX7_sounding_5 kc_4 ?_
      refine g_icmp_ge_F (tgt := 32) B dX7_sounding_6 (by decide) (by decide) ?_
      refine g_iload_n B 1 1 dX7_sounding_9 rfl rfl ?_
      refine g_aload_n B 0 2 dX7_sounding_10 rfl rfl ?_
      refine g_get (C := RX7) (T := TX7) (N := 35) B 6 0 2 (.ref (dd 3)) in_X7 rfl q914 rfl (Nat.le_of_ble_eq_true rfl) (fun _ h9 => h9) rfl dX7_sounding_11 ?_
      refine g_iload_n B 2 0 dX7_sounding_14 rfl rfl ?_
      refine g_iald B 1 2 rfl (by decide) (vpc rfl) dX7_sounding_15 ?_
      have j_9 : ∀ (x_10 : Int32), x_10 = mk_c (sa 2) → gW p l e (gRm 0 0 0 0) s m ([.ref (dd 0)] : List Value).toArray below meth c (MQ below (va_Qi (fun (r : Int32) (_ : Unit) => r = d_snd sa) (fun u t => gE g (va_A [((dd 0), cD dd di sm), ((dd 3), .inl (g.2.1, 4, .inl sa))] sz) ((fun _ : Unit => [((dd 0), cD dd di sm), ((dd 3), .inl (g.2.1, 4, .inl sa))]) u) t) (va_A [((dd 0), cD dd di sm), ((dd 3), .inl (g.2.1, 4, .inl sa))] sz)) ([.ref (dd 0)] : List Value).toArray s 0 0 (va_A [((dd 0), cD dd di sm), ((dd 3), .inl (g.2.1, 4, .inl sa))] sz)) 3 g (va_A [((dd 0), cD dd di sm), ((dd 3), .inl (g.2.1, 4, .inl sa))] sz) [((dd 0), cD dd di sm), ((dd 3), .inl (g.2.1, 4, .inl sa))] [(2, .int 2), (1, .int x_7), (0, .ref (dd 0))] [.int x_10, .int x_7] 24 0 0 := by
        intro x_10 ex_10
        refine g_iadd B dX7_sounding_24 ?_
        refine g_istore_n B 1 [(1, .int (x_7 + x_10)), (2, .int 2), (0, .ref (dd 0))] dX7_sounding_25 rfl (Nat.le_of_ble_eq_true rfl) rfl ?_
        refine g_iinc B 1 3 [(2, .int 3), (1, .int (x_7 + x_10)), (0, .ref (dd 0))] dX7_sounding_26 rfl (by decide) (Nat.le_of_ble_eq_true rfl) rfl ?_
        refine g_goto (tgt := 4) B dX7_sounding_29 (by decide) ?_
        refine g_iload_n B 2 0 dX7_sounding_4 rfl rfl ?_
        refine g_iconst (v := 4) B dX7_sounding_5 kc_4 ?_
        refine g_icmp_ge_F (tgt := 32) B dX7_sounding_6 (by decide) (by decide) ?_
        refine g_iload_n B 1 1 dX7_sounding_9 rfl rfl ?_
        refine g_aload_n B 0 2 dX7_sounding_10 rfl rfl ?_
        refine g_get (C := RX7) (T := TX7) (N := 35) B 6 0 2 (.ref (dd 3)) in_X7 rfl q914 rfl (Nat.le_of_ble_eq_true rfl) (fun _ h9 => h9) rfl dX7_sounding_11 ?_
        refine g_iload_n B 2 0 dX7_sounding_14 rfl rfl ?_
        refine g_iald B 1 3 rfl (by decide) (vpc rfl) dX7_sounding_15 ?_
        have j_12 : ∀ (x_13 : Int32), x_13 = mk_c (sa 3) → gW p l e (gRm 0 0 0 0) s m ([.ref (dd 0)] : List Value).toArray below meth c (MQ below (va_Qi (fun (r : Int32) (_ : Unit) => r = d_snd sa) (fun u t => gE g (va_A [((dd 0), cD dd di sm), ((dd 3), .inl (g.2.1, 4, .inl sa))] sz) ((fun _ : Unit => [((dd 0), cD dd di sm), ((dd 3), .inl (g.2.1, 4, .inl sa))]) u) t) (va_A [((dd 0), cD dd di sm), ((dd 3), .inl (g.2.1, 4, .inl sa))] sz)) ([.ref (dd 0)] : List Value).toArray s 0 0 (va_A [((dd 0), cD dd di sm), ((dd 3), .inl (g.2.1, 4, .inl sa))] sz)) 3 g (va_A [((dd 0), cD dd di sm), ((dd 3), .inl (g.2.1, 4, .inl sa))] sz) [((dd 0), cD dd di sm), ((dd 3), .inl (g.2.1, 4, .inl sa))] [(2, .int 3), (1, .int (x_7 + x_10)), (0, .ref (dd 0))] [.int x_13, .int (x_7 + x_10)] 24 0 0 := by
          intro x_13 ex_13
          refine g_iadd B dX7_sounding_24 ?_
          refine g_topi (fun x_14 ex_14 => ?_)
          refine g_istore_n B 1 [(1, .int x_14), (2, .int 3), (0, .ref (dd 0))] dX7_sounding_25 rfl (Nat.le_of_ble_eq_true rfl) rfl ?_
          refine g_iinc B 1 4 [(2, .int 4), (1, .int x_14), (0, .ref (dd 0))] dX7_sounding_26 rfl (by decide) (Nat.le_of_ble_eq_true rfl) rfl ?_
          refine g_goto (tgt := 4) B dX7_sounding_29 (by decide) ?_
          refine g_iload_n B 2 0 dX7_sounding_4 rfl rfl ?_
          refine g_iconst (v := 4) B dX7_sounding_5 kc_4 ?_
          refine g_icmp_ge_T (tgt := 32) B dX7_sounding_6 (by decide) (by decide) ?_
          refine g_iload_n B 1 1 dX7_sounding_32 rfl rfl ?_
          subst ex_3
          subst ex_6
          subst ex_7
          subst ex_10
          subst ex_13
          subst ex_14
          exact g_iret B hr dX7_sounding_33 (Nat.le_of_ble_eq_true rfl) (Nat.le_of_ble_eq_true rfl) () rfl [0, 1] rfl rfl
        refine g_if_ne (tgt := 23) B dX7_sounding_16 (by decide) (fun c_11 => ?_) (fun c_11 => ?_)
        · skip
          refine g_iconst (v := 1) B dX7_sounding_23 kc_1 ?_
          exact j_12 _ (by first | rfl | (simp only [mk_c, if_neg c_11]; done) | (simp only [mk_c, if_neg c_11]; rfl))
        · skip
          refine g_iconst (v := 0) B dX7_sounding_19 kc_0 ?_
          refine g_goto (tgt := 24) B dX7_sounding_20 (by decide) ?_
          exact j_12 _ (by first | rfl | (simp only [mk_c, if_pos c_11]; done) | (simp only [mk_c, if_pos c_11]; rfl))
      refine g_if_ne (tgt := 23) B dX7_sounding_16 (by decide) (fun c_8 => ?_) (fun c_8 => ?_)
      · skip
        refine g_iconst (v := 1) B dX7_sounding_23 kc_1 ?_
        exact j_9 _ (by first | rfl | (simp only [mk_c, if_neg c_8]; done) | (simp only [mk_c, if_neg c_8]; rfl))
      · skip
        refine g_iconst (v := 0) B dX7_sounding_19 kc_0 ?_
        refine g_goto (tgt := 24) B dX7_sounding_20 (by decide) ?_
        exact j_9 _ (by first | rfl | (simp only [mk_c, if_pos c_8]; done) | (simp only [mk_c, if_pos c_8]; rfl))
    refine g_if_ne (tgt := 23) B dX7_sounding_16 (by decide) (fun c_4 => ?_) (fun c_4 => ?_)
    · skip
      refine g_iconst (v := 1) B dX7_sounding_23 kc_1 ?_
      exact j_5 _ (by first | rfl | (simp only [mk_c, if_neg c_4]; done) | (simp only [mk_c, if_neg c_4]; rfl))
    · skip
      refine g_iconst (v := 0) B dX7_sounding_19 kc_0 ?_
      refine g_goto (tgt := 24) B dX7_sounding_20 (by decide) ?_
      exact j_5 _ (by first | rfl | (simp only [mk_c, if_pos c_4]; done) | (simp only [mk_c, if_pos c_4]; rfl))
  refine g_if_ne (tgt := 23) B dX7_sounding_16 (by decide) (fun c_1 => ?_) (fun c_1 => ?_)
  · skip
    refine g_iconst (v := 1) B dX7_sounding_23 kc_1 ?_
    exact j_2 _ (by first | rfl | (simp only [mk_c, if_neg c_1]; done) | (simp only [mk_c, if_neg c_1]; rfl))
  · skip
    refine g_iconst (v := 0) B dX7_sounding_19 kc_0 ?_
    refine g_goto (tgt := 24) B dX7_sounding_20 (by decide) ?_
    exact j_2 _ (by first | rfl | (simp only [mk_c, if_pos c_1]; done) | (simp only [mk_c, if_pos c_1]; rfl))

set_option maxHeartbeats 4000000 in
set_option maxRecDepth 100000 in
theorem m_X7_nextVoice (l : Launch) (hst : l.stackTraces = false) (g : gG) (dd : Nat → Nat) (di : Nat → Int32) (sm : Int64) (sa la bg : Nat → Int32) : gMi l yX7_nextVoice cX7_nextVoice 3 .int 0 0 0 0 g [((dd 0), cD dd di sm), ((dd 3), .inl (g.2.1, 4, .inl sa)), ((dd 4), .inl (g.2.1, 4, .inl la)), ((dd 13), .inl (g.2.1, 4, .inl bg))] [.ref (dd 0)] (fun (r : Int32) (u : Nat) => r = nI u ∧ u = d_nxn sa la bg) (fun u : Nat => [((dd 0), cD dd di sm), ((dd 3), .inl (g.2.1, 4, .inl sa)), ((dd 4), .inl (g.2.1, 4, .inl la)), ((dd 13), .inl (g.2.1, 4, .inl bg))]) := by
  intro sz
  refine g_ent (by decide) hst [(0, .ref (dd 0))] (Nat.le_of_ble_eq_true rfl) rfl ?_
  intro p e s m below meth c B hr hnm hsz
  have B : gB p l s m ([.ref (dd 0)] : List Value).toArray meth c RX7 cX7_nextVoice 3 g (va_A [((dd 0), cD dd di sm), ((dd 3), .inl (g.2.1, 4, .inl sa)), ((dd 4), .inl (g.2.1, 4, .inl la)), ((dd 13), .inl (g.2.1, 4, .inl bg))] sz) := B
  refine g_iconst (v := 0) B dX7_nextVoice_0 kc_0 ?_
  refine g_istore_n B 1 [(1, .int 0), (0, .ref (dd 0))] dX7_nextVoice_1 rfl (Nat.le_of_ble_eq_true rfl) rfl ?_
  refine g_iload_n B 1 0 dX7_nextVoice_2 rfl rfl ?_
  refine g_iconst (v := 4) B dX7_nextVoice_3 kc_4 ?_
  refine g_icmp_ge_F (tgt := 24) B dX7_nextVoice_4 (by decide) (by decide) ?_
  refine g_aload_n B 0 1 dX7_nextVoice_7 rfl rfl ?_
  refine g_get (C := RX7) (T := TX7) (N := 35) B 6 0 2 (.ref (dd 3)) in_X7 rfl q914 rfl (Nat.le_of_ble_eq_true rfl) (fun _ h9 => h9) rfl dX7_nextVoice_8 ?_
  refine g_iload_n B 1 0 dX7_nextVoice_11 rfl rfl ?_
  refine g_iald B 1 0 rfl (by decide) (vpc rfl) dX7_nextVoice_12 ?_
  refine g_if_ne (tgt := 18) B dX7_nextVoice_13 (by decide) (fun c_1 => ?_) (fun c_1 => ?_)
  · skip
    refine g_iinc B 0 1 [(1, .int 1), (0, .ref (dd 0))] dX7_nextVoice_18 rfl (by decide) (Nat.le_of_ble_eq_true rfl) rfl ?_
    refine g_goto (tgt := 2) B dX7_nextVoice_21 (by decide) ?_
    refine g_iload_n B 1 0 dX7_nextVoice_2 rfl rfl ?_
    refine g_iconst (v := 4) B dX7_nextVoice_3 kc_4 ?_
    refine g_icmp_ge_F (tgt := 24) B dX7_nextVoice_4 (by decide) (by decide) ?_
    refine g_aload_n B 0 1 dX7_nextVoice_7 rfl rfl ?_
    refine g_get (C := RX7) (T := TX7) (N := 35) B 6 0 2 (.ref (dd 3)) in_X7 rfl q914 rfl (Nat.le_of_ble_eq_true rfl) (fun _ h9 => h9) rfl dX7_nextVoice_8 ?_
    refine g_iload_n B 1 0 dX7_nextVoice_11 rfl rfl ?_
    refine g_iald B 1 1 rfl (by decide) (vpc rfl) dX7_nextVoice_12 ?_
    refine g_if_ne (tgt := 18) B dX7_nextVoice_13 (by decide) (fun c_2 => ?_) (fun c_2 => ?_)
    · skip
      refine g_iinc B 0 2 [(1, .int 2), (0, .ref (dd 0))] dX7_nextVoice_18 rfl (by decide) (Nat.le_of_ble_eq_true rfl) rfl ?_
      refine g_goto (tgt := 2) B dX7_nextVoice_21 (by decide) ?_
      refine g_iload_n B 1 0 dX7_nextVoice_2 rfl rfl ?_
      refine g_iconst (v := 4) B dX7_nextVoice_3 kc_4 ?_
      refine g_icmp_ge_F (tgt := 24) B dX7_nextVoice_4 (by decide) (by decide) ?_
      refine g_aload_n B 0 1 dX7_nextVoice_7 rfl rfl ?_
      refine g_get (C := RX7) (T := TX7) (N := 35) B 6 0 2 (.ref (dd 3)) in_X7 rfl q914 rfl (Nat.le_of_ble_eq_true rfl) (fun _ h9 => h9) rfl dX7_nextVoice_8 ?_
      refine g_iload_n B 1 0 dX7_nextVoice_11 rfl rfl ?_
      refine g_iald B 1 2 rfl (by decide) (vpc rfl) dX7_nextVoice_12 ?_
      refine g_if_ne (tgt := 18) B dX7_nextVoice_13 (by decide) (fun c_3 => ?_) (fun c_3 => ?_)
      · skip
        refine g_iinc B 0 3 [(1, .int 3), (0, .ref (dd 0))] dX7_nextVoice_18 rfl (by decide) (Nat.le_of_ble_eq_true rfl) rfl ?_
        refine g_goto (tgt := 2) B dX7_nextVoice_21 (by decide) ?_
        refine g_iload_n B 1 0 dX7_nextVoice_2 rfl rfl ?_
        refine g_iconst (v := 4) B dX7_nextVoice_3 kc_4 ?_
        refine g_icmp_ge_F (tgt := 24) B dX7_nextVoice_4 (by decide) (by decide) ?_
        refine g_aload_n B 0 1 dX7_nextVoice_7 rfl rfl ?_
        refine g_get (C := RX7) (T := TX7) (N := 35) B 6 0 2 (.ref (dd 3)) in_X7 rfl q914 rfl (Nat.le_of_ble_eq_true rfl) (fun _ h9 => h9) rfl dX7_nextVoice_8 ?_
        refine g_iload_n B 1 0 dX7_nextVoice_11 rfl rfl ?_
        refine g_iald B 1 3 rfl (by decide) (vpc rfl) dX7_nextVoice_12 ?_
        refine g_if_ne (tgt := 18) B dX7_nextVoice_13 (by decide) (fun c_4 => ?_) (fun c_4 => ?_)
        · skip
          refine g_iinc B 0 4 [(1, .int 4), (0, .ref (dd 0))] dX7_nextVoice_18 rfl (by decide) (Nat.le_of_ble_eq_true rfl) rfl ?_
          refine g_goto (tgt := 2) B dX7_nextVoice_21 (by decide) ?_
          refine g_iload_n B 1 0 dX7_nextVoice_2 rfl rfl ?_
          refine g_iconst (v := 4) B dX7_nextVoice_3 kc_4 ?_
          refine g_icmp_ge_T (tgt := 24) B dX7_nextVoice_4 (by decide) (by decide) ?_
          refine g_iconst (v := (-1)) B dX7_nextVoice_24 kc_m1 ?_
          refine g_istore_n B 1 [(1, .int (-1)), (0, .ref (dd 0))] dX7_nextVoice_25 rfl (Nat.le_of_ble_eq_true rfl) rfl ?_
          refine g_iconst (v := 0) B dX7_nextVoice_26 kc_0 ?_
          refine g_istore_n B 2 [(2, .int 0), (1, .int (-1)), (0, .ref (dd 0))] dX7_nextVoice_27 rfl (Nat.le_of_ble_eq_true rfl) rfl ?_
          refine g_iload_n B 2 0 dX7_nextVoice_28 rfl rfl ?_
          refine g_iconst (v := 4) B dX7_nextVoice_29 kc_4 ?_
          refine g_icmp_ge_F (tgt := 71) B dX7_nextVoice_30 (by decide) (by decide) ?_
          refine g_aload_n B 0 2 dX7_nextVoice_33 rfl rfl ?_
          refine g_get (C := RX7) (T := TX7) (N := 35) B 6 0 2 (.ref (dd 3)) in_X7 rfl q914 rfl (Nat.le_of_ble_eq_true rfl) (fun _ h9 => h9) rfl dX7_nextVoice_34 ?_
          refine g_iload_n B 2 0 dX7_nextVoice_37 rfl rfl ?_
          refine g_iald B 1 0 rfl (by decide) (vpc rfl) dX7_nextVoice_38 ?_
          refine g_iconst (v := 4) B dX7_nextVoice_39 kc_4 ?_
          have j_6 : ∀ (x_7 : Int32), x_7 = d_b sa la 0 (-1) → gW p l e (gRm 0 0 0 0) s m ([.ref (dd 0)] : List Value).toArray below meth c (MQ below (va_Qi (fun (r : Int32) (u : Nat) => r = nI u ∧ u = d_nxn sa la bg) (fun u t => gE g (va_A [((dd 0), cD dd di sm), ((dd 3), .inl (g.2.1, 4, .inl sa)), ((dd 4), .inl (g.2.1, 4, .inl la)), ((dd 13), .inl (g.2.1, 4, .inl bg))] sz) ((fun u : Nat => [((dd 0), cD dd di sm), ((dd 3), .inl (g.2.1, 4, .inl sa)), ((dd 4), .inl (g.2.1, 4, .inl la)), ((dd 13), .inl (g.2.1, 4, .inl bg))]) u) t) (va_A [((dd 0), cD dd di sm), ((dd 3), .inl (g.2.1, 4, .inl sa)), ((dd 4), .inl (g.2.1, 4, .inl la)), ((dd 13), .inl (g.2.1, 4, .inl bg))] sz)) ([.ref (dd 0)] : List Value).toArray s 0 0 (va_A [((dd 0), cD dd di sm), ((dd 3), .inl (g.2.1, 4, .inl sa)), ((dd 4), .inl (g.2.1, 4, .inl la)), ((dd 13), .inl (g.2.1, 4, .inl bg))] sz)) 3 g (va_A [((dd 0), cD dd di sm), ((dd 3), .inl (g.2.1, 4, .inl sa)), ((dd 4), .inl (g.2.1, 4, .inl la)), ((dd 13), .inl (g.2.1, 4, .inl bg))] sz) [((dd 0), cD dd di sm), ((dd 3), .inl (g.2.1, 4, .inl sa)), ((dd 4), .inl (g.2.1, 4, .inl la)), ((dd 13), .inl (g.2.1, 4, .inl bg))] [(1, .int x_7), (2, .int 0), (0, .ref (dd 0))] [] 65 0 0 := by
            intro x_7 ex_7
            refine g_iinc B 1 1 [(2, .int 1), (1, .int x_7), (0, .ref (dd 0))] dX7_nextVoice_65 rfl (by decide) (Nat.le_of_ble_eq_true rfl) rfl ?_
            refine g_goto (tgt := 28) B dX7_nextVoice_68 (by decide) ?_
            refine g_iload_n B 2 0 dX7_nextVoice_28 rfl rfl ?_
            refine g_iconst (v := 4) B dX7_nextVoice_29 kc_4 ?_
            refine g_icmp_ge_F (tgt := 71) B dX7_nextVoice_30 (by decide) (by decide) ?_
            refine g_aload_n B 0 2 dX7_nextVoice_33 rfl rfl ?_
            refine g_get (C := RX7) (T := TX7) (N := 35) B 6 0 2 (.ref (dd 3)) in_X7 rfl q914 rfl (Nat.le_of_ble_eq_true rfl) (fun _ h9 => h9) rfl dX7_nextVoice_34 ?_
            refine g_iload_n B 2 0 dX7_nextVoice_37 rfl rfl ?_
            refine g_iald B 1 1 rfl (by decide) (vpc rfl) dX7_nextVoice_38 ?_
            refine g_iconst (v := 4) B dX7_nextVoice_39 kc_4 ?_
            have j_9 : ∀ (x_10 : Int32), x_10 = d_b sa la 1 x_7 → gW p l e (gRm 0 0 0 0) s m ([.ref (dd 0)] : List Value).toArray below meth c (MQ below (va_Qi (fun (r : Int32) (u : Nat) => r = nI u ∧ u = d_nxn sa la bg) (fun u t => gE g (va_A [((dd 0), cD dd di sm), ((dd 3), .inl (g.2.1, 4, .inl sa)), ((dd 4), .inl (g.2.1, 4, .inl la)), ((dd 13), .inl (g.2.1, 4, .inl bg))] sz) ((fun u : Nat => [((dd 0), cD dd di sm), ((dd 3), .inl (g.2.1, 4, .inl sa)), ((dd 4), .inl (g.2.1, 4, .inl la)), ((dd 13), .inl (g.2.1, 4, .inl bg))]) u) t) (va_A [((dd 0), cD dd di sm), ((dd 3), .inl (g.2.1, 4, .inl sa)), ((dd 4), .inl (g.2.1, 4, .inl la)), ((dd 13), .inl (g.2.1, 4, .inl bg))] sz)) ([.ref (dd 0)] : List Value).toArray s 0 0 (va_A [((dd 0), cD dd di sm), ((dd 3), .inl (g.2.1, 4, .inl sa)), ((dd 4), .inl (g.2.1, 4, .inl la)), ((dd 13), .inl (g.2.1, 4, .inl bg))] sz)) 3 g (va_A [((dd 0), cD dd di sm), ((dd 3), .inl (g.2.1, 4, .inl sa)), ((dd 4), .inl (g.2.1, 4, .inl la)), ((dd 13), .inl (g.2.1, 4, .inl bg))] sz) [((dd 0), cD dd di sm), ((dd 3), .inl (g.2.1, 4, .inl sa)), ((dd 4), .inl (g.2.1, 4, .inl la)), ((dd 13), .inl (g.2.1, 4, .inl bg))] [(1, .int x_10), (2, .int 1), (0, .ref (dd 0))] [] 65 0 0 := by
              intro x_10 ex_10
              refine g_iinc B 1 2 [(2, .int 2), (1, .int x_10), (0, .ref (dd 0))] dX7_nextVoice_65 rfl (by decide) (Nat.le_of_ble_eq_true rfl) rfl ?_
              refine g_goto (tgt := 28) B dX7_nextVoice_68 (by decide) ?_
              refine g_iload_n B 2 0 dX7_nextVoice_28 rfl rfl ?_
              refine g_iconst (v := 4) B dX7_nextVoice_29 kc_4 ?_
              refine g_icmp_ge_F (tgt := 71) B dX7_nextVoice_30 (by decide) (by decide) ?_
              refine g_aload_n B 0 2 dX7_nextVoice_33 rfl rfl ?_
              refine g_get (C := RX7) (T := TX7) (N := 35) B 6 0 2 (.ref (dd 3)) in_X7 rfl q914 rfl (Nat.le_of_ble_eq_true rfl) (fun _ h9 => h9) rfl dX7_nextVoice_34 ?_
              refine g_iload_n B 2 0 dX7_nextVoice_37 rfl rfl ?_
              refine g_iald B 1 2 rfl (by decide) (vpc rfl) dX7_nextVoice_38 ?_
              refine g_iconst (v := 4) B dX7_nextVoice_39 kc_4 ?_
              have j_12 : ∀ (x_13 : Int32), x_13 = d_b sa la 2 x_10 → gW p l e (gRm 0 0 0 0) s m ([.ref (dd 0)] : List Value).toArray below meth c (MQ below (va_Qi (fun (r : Int32) (u : Nat) => r = nI u ∧ u = d_nxn sa la bg) (fun u t => gE g (va_A [((dd 0), cD dd di sm), ((dd 3), .inl (g.2.1, 4, .inl sa)), ((dd 4), .inl (g.2.1, 4, .inl la)), ((dd 13), .inl (g.2.1, 4, .inl bg))] sz) ((fun u : Nat => [((dd 0), cD dd di sm), ((dd 3), .inl (g.2.1, 4, .inl sa)), ((dd 4), .inl (g.2.1, 4, .inl la)), ((dd 13), .inl (g.2.1, 4, .inl bg))]) u) t) (va_A [((dd 0), cD dd di sm), ((dd 3), .inl (g.2.1, 4, .inl sa)), ((dd 4), .inl (g.2.1, 4, .inl la)), ((dd 13), .inl (g.2.1, 4, .inl bg))] sz)) ([.ref (dd 0)] : List Value).toArray s 0 0 (va_A [((dd 0), cD dd di sm), ((dd 3), .inl (g.2.1, 4, .inl sa)), ((dd 4), .inl (g.2.1, 4, .inl la)), ((dd 13), .inl (g.2.1, 4, .inl bg))] sz)) 3 g (va_A [((dd 0), cD dd di sm), ((dd 3), .inl (g.2.1, 4, .inl sa)), ((dd 4), .inl (g.2.1, 4, .inl la)), ((dd 13), .inl (g.2.1, 4, .inl bg))] sz) [((dd 0), cD dd di sm), ((dd 3), .inl (g.2.1, 4, .inl sa)), ((dd 4), .inl (g.2.1, 4, .inl la)), ((dd 13), .inl (g.2.1, 4, .inl bg))] [(1, .int x_13), (2, .int 2), (0, .ref (dd 0))] [] 65 0 0 := by
                intro x_13 ex_13
                refine g_iinc B 1 3 [(2, .int 3), (1, .int x_13), (0, .ref (dd 0))] dX7_nextVoice_65 rfl (by decide) (Nat.le_of_ble_eq_true rfl) rfl ?_
                refine g_goto (tgt := 28) B dX7_nextVoice_68 (by decide) ?_
                refine g_iload_n B 2 0 dX7_nextVoice_28 rfl rfl ?_
                refine g_iconst (v := 4) B dX7_nextVoice_29 kc_4 ?_
                refine g_icmp_ge_F (tgt := 71) B dX7_nextVoice_30 (by decide) (by decide) ?_
                refine g_aload_n B 0 2 dX7_nextVoice_33 rfl rfl ?_
                refine g_get (C := RX7) (T := TX7) (N := 35) B 6 0 2 (.ref (dd 3)) in_X7 rfl q914 rfl (Nat.le_of_ble_eq_true rfl) (fun _ h9 => h9) rfl dX7_nextVoice_34 ?_
                refine g_iload_n B 2 0 dX7_nextVoice_37 rfl rfl ?_
                refine g_iald B 1 3 rfl (by decide) (vpc rfl) dX7_nextVoice_38 ?_
                refine g_iconst (v := 4) B dX7_nextVoice_39 kc_4 ?_
                have j_15 : ∀ (x_16 : Int32), x_16 = d_b sa la 3 x_13 → gW p l e (gRm 0 0 0 0) s m ([.ref (dd 0)] : List Value).toArray below meth c (MQ below (va_Qi (fun (r : Int32) (u : Nat) => r = nI u ∧ u = d_nxn sa la bg) (fun u t => gE g (va_A [((dd 0), cD dd di sm), ((dd 3), .inl (g.2.1, 4, .inl sa)), ((dd 4), .inl (g.2.1, 4, .inl la)), ((dd 13), .inl (g.2.1, 4, .inl bg))] sz) ((fun u : Nat => [((dd 0), cD dd di sm), ((dd 3), .inl (g.2.1, 4, .inl sa)), ((dd 4), .inl (g.2.1, 4, .inl la)), ((dd 13), .inl (g.2.1, 4, .inl bg))]) u) t) (va_A [((dd 0), cD dd di sm), ((dd 3), .inl (g.2.1, 4, .inl sa)), ((dd 4), .inl (g.2.1, 4, .inl la)), ((dd 13), .inl (g.2.1, 4, .inl bg))] sz)) ([.ref (dd 0)] : List Value).toArray s 0 0 (va_A [((dd 0), cD dd di sm), ((dd 3), .inl (g.2.1, 4, .inl sa)), ((dd 4), .inl (g.2.1, 4, .inl la)), ((dd 13), .inl (g.2.1, 4, .inl bg))] sz)) 3 g (va_A [((dd 0), cD dd di sm), ((dd 3), .inl (g.2.1, 4, .inl sa)), ((dd 4), .inl (g.2.1, 4, .inl la)), ((dd 13), .inl (g.2.1, 4, .inl bg))] sz) [((dd 0), cD dd di sm), ((dd 3), .inl (g.2.1, 4, .inl sa)), ((dd 4), .inl (g.2.1, 4, .inl la)), ((dd 13), .inl (g.2.1, 4, .inl bg))] [(1, .int x_16), (2, .int 3), (0, .ref (dd 0))] [] 65 0 0 := by
                  intro x_16 ex_16
                  refine g_iinc B 1 4 [(2, .int 4), (1, .int x_16), (0, .ref (dd 0))] dX7_nextVoice_65 rfl (by decide) (Nat.le_of_ble_eq_true rfl) rfl ?_
                  refine g_goto (tgt := 28) B dX7_nextVoice_68 (by decide) ?_
                  refine g_iload_n B 2 0 dX7_nextVoice_28 rfl rfl ?_
                  refine g_iconst (v := 4) B dX7_nextVoice_29 kc_4 ?_
                  refine g_icmp_ge_T (tgt := 71) B dX7_nextVoice_30 (by decide) (by decide) ?_
                  refine g_iload_n B 1 1 dX7_nextVoice_71 rfl rfl ?_
                  refine g_iconst (v := (-1)) B dX7_nextVoice_72 kc_m1 ?_
                  refine g_icmp_eq (tgt := 78) B dX7_nextVoice_73 (by decide) (fun c_17 => ?_) (fun c_17 => ?_)
                  · skip
                    refine g_iconst (v := 0) B dX7_nextVoice_78 kc_0 ?_
                    refine g_istore_n B 1 [(1, .int 0), (2, .int 4), (0, .ref (dd 0))] dX7_nextVoice_79 rfl (Nat.le_of_ble_eq_true rfl) rfl ?_
                    refine g_iconst (v := 1) B dX7_nextVoice_80 kc_1 ?_
                    refine g_istore_n B 2 [(2, .int 1), (1, .int 0), (0, .ref (dd 0))] dX7_nextVoice_81 rfl (Nat.le_of_ble_eq_true rfl) rfl ?_
                    refine g_iload_n B 2 0 dX7_nextVoice_82 rfl rfl ?_
                    refine g_iconst (v := 4) B dX7_nextVoice_83 kc_4 ?_
                    refine g_icmp_ge_F (tgt := 110) B dX7_nextVoice_84 (by decide) (by decide) ?_
                    refine g_aload_n B 0 2 dX7_nextVoice_87 rfl rfl ?_
                    refine g_get (C := RX7) (T := TX7) (N := 35) B 6 0 12 (.ref (dd 13)) in_X7 rfl q934 rfl (Nat.le_of_ble_eq_true rfl) (fun _ h9 => h9) rfl dX7_nextVoice_88 ?_
                    refine g_iload_n B 2 0 dX7_nextVoice_91 rfl rfl ?_
                    refine g_iald B 3 1 rfl (by decide) (vpc rfl) dX7_nextVoice_92 ?_
                    refine g_aload_n B 0 2 dX7_nextVoice_93 rfl rfl ?_
                    refine g_get (C := RX7) (T := TX7) (N := 35) B 6 0 12 (.ref (dd 13)) in_X7 rfl q934 rfl (Nat.le_of_ble_eq_true rfl) (fun _ h9 => h9) rfl dX7_nextVoice_94 ?_
                    refine g_iload_n B 1 1 dX7_nextVoice_97 rfl rfl ?_
                    refine g_iald B 3 0 rfl (by decide) (vpc rfl) dX7_nextVoice_98 ?_
                    have j_19 : ∀ (x_20 : Int32), x_20 = d_c bg 1 0 → gW p l e (gRm 0 0 0 0) s m ([.ref (dd 0)] : List Value).toArray below meth c (MQ below (va_Qi (fun (r : Int32) (u : Nat) => r = nI u ∧ u = d_nxn sa la bg) (fun u t => gE g (va_A [((dd 0), cD dd di sm), ((dd 3), .inl (g.2.1, 4, .inl sa)), ((dd 4), .inl (g.2.1, 4, .inl la)), ((dd 13), .inl (g.2.1, 4, .inl bg))] sz) ((fun u : Nat => [((dd 0), cD dd di sm), ((dd 3), .inl (g.2.1, 4, .inl sa)), ((dd 4), .inl (g.2.1, 4, .inl la)), ((dd 13), .inl (g.2.1, 4, .inl bg))]) u) t) (va_A [((dd 0), cD dd di sm), ((dd 3), .inl (g.2.1, 4, .inl sa)), ((dd 4), .inl (g.2.1, 4, .inl la)), ((dd 13), .inl (g.2.1, 4, .inl bg))] sz)) ([.ref (dd 0)] : List Value).toArray s 0 0 (va_A [((dd 0), cD dd di sm), ((dd 3), .inl (g.2.1, 4, .inl sa)), ((dd 4), .inl (g.2.1, 4, .inl la)), ((dd 13), .inl (g.2.1, 4, .inl bg))] sz)) 3 g (va_A [((dd 0), cD dd di sm), ((dd 3), .inl (g.2.1, 4, .inl sa)), ((dd 4), .inl (g.2.1, 4, .inl la)), ((dd 13), .inl (g.2.1, 4, .inl bg))] sz) [((dd 0), cD dd di sm), ((dd 3), .inl (g.2.1, 4, .inl sa)), ((dd 4), .inl (g.2.1, 4, .inl la)), ((dd 13), .inl (g.2.1, 4, .inl bg))] [(1, .int x_20), (2, .int 1), (0, .ref (dd 0))] [] 104 0 0 := by
                      intro x_20 ex_20
                      refine g_iinc B 1 2 [(2, .int 2), (1, .int x_20), (0, .ref (dd 0))] dX7_nextVoice_104 rfl (by decide) (Nat.le_of_ble_eq_true rfl) rfl ?_
                      refine g_goto (tgt := 82) B dX7_nextVoice_107 (by decide) ?_
                      refine g_iload_n B 2 0 dX7_nextVoice_82 rfl rfl ?_
                      refine g_iconst (v := 4) B dX7_nextVoice_83 kc_4 ?_
                      refine g_icmp_ge_F (tgt := 110) B dX7_nextVoice_84 (by decide) (by decide) ?_
                      refine g_aload_n B 0 2 dX7_nextVoice_87 rfl rfl ?_
                      refine g_get (C := RX7) (T := TX7) (N := 35) B 6 0 12 (.ref (dd 13)) in_X7 rfl q934 rfl (Nat.le_of_ble_eq_true rfl) (fun _ h9 => h9) rfl dX7_nextVoice_88 ?_
                      refine g_iload_n B 2 0 dX7_nextVoice_91 rfl rfl ?_
                      refine g_iald B 3 2 rfl (by decide) (vpc rfl) dX7_nextVoice_92 ?_
                      refine g_aload_n B 0 2 dX7_nextVoice_93 rfl rfl ?_
                      refine g_get (C := RX7) (T := TX7) (N := 35) B 6 0 12 (.ref (dd 13)) in_X7 rfl q934 rfl (Nat.le_of_ble_eq_true rfl) (fun _ h9 => h9) rfl dX7_nextVoice_94 ?_
                      refine g_iload_n B 1 1 dX7_nextVoice_97 rfl rfl ?_
                      refine g_iald B 3 x_20.toNatClampNeg rfl rfl (d_c_in ex_20 (by decide) (vpc rfl)) dX7_nextVoice_98 ?_
                      have j_22 : ∀ (x_23 : Int32), x_23 = d_c bg 2 x_20 → gW p l e (gRm 0 0 0 0) s m ([.ref (dd 0)] : List Value).toArray below meth c (MQ below (va_Qi (fun (r : Int32) (u : Nat) => r = nI u ∧ u = d_nxn sa la bg) (fun u t => gE g (va_A [((dd 0), cD dd di sm), ((dd 3), .inl (g.2.1, 4, .inl sa)), ((dd 4), .inl (g.2.1, 4, .inl la)), ((dd 13), .inl (g.2.1, 4, .inl bg))] sz) ((fun u : Nat => [((dd 0), cD dd di sm), ((dd 3), .inl (g.2.1, 4, .inl sa)), ((dd 4), .inl (g.2.1, 4, .inl la)), ((dd 13), .inl (g.2.1, 4, .inl bg))]) u) t) (va_A [((dd 0), cD dd di sm), ((dd 3), .inl (g.2.1, 4, .inl sa)), ((dd 4), .inl (g.2.1, 4, .inl la)), ((dd 13), .inl (g.2.1, 4, .inl bg))] sz)) ([.ref (dd 0)] : List Value).toArray s 0 0 (va_A [((dd 0), cD dd di sm), ((dd 3), .inl (g.2.1, 4, .inl sa)), ((dd 4), .inl (g.2.1, 4, .inl la)), ((dd 13), .inl (g.2.1, 4, .inl bg))] sz)) 3 g (va_A [((dd 0), cD dd di sm), ((dd 3), .inl (g.2.1, 4, .inl sa)), ((dd 4), .inl (g.2.1, 4, .inl la)), ((dd 13), .inl (g.2.1, 4, .inl bg))] sz) [((dd 0), cD dd di sm), ((dd 3), .inl (g.2.1, 4, .inl sa)), ((dd 4), .inl (g.2.1, 4, .inl la)), ((dd 13), .inl (g.2.1, 4, .inl bg))] [(1, .int x_23), (2, .int 2), (0, .ref (dd 0))] [] 104 0 0 := by
                        intro x_23 ex_23
                        refine g_iinc B 1 3 [(2, .int 3), (1, .int x_23), (0, .ref (dd 0))] dX7_nextVoice_104 rfl (by decide) (Nat.le_of_ble_eq_true rfl) rfl ?_
                        refine g_goto (tgt := 82) B dX7_nextVoice_107 (by decide) ?_
                        refine g_iload_n B 2 0 dX7_nextVoice_82 rfl rfl ?_
                        refine g_iconst (v := 4) B dX7_nextVoice_83 kc_4 ?_
                        refine g_icmp_ge_F (tgt := 110) B dX7_nextVoice_84 (by decide) (by decide) ?_
                        refine g_aload_n B 0 2 dX7_nextVoice_87 rfl rfl ?_
                        refine g_get (C := RX7) (T := TX7) (N := 35) B 6 0 12 (.ref (dd 13)) in_X7 rfl q934 rfl (Nat.le_of_ble_eq_true rfl) (fun _ h9 => h9) rfl dX7_nextVoice_88 ?_
                        refine g_iload_n B 2 0 dX7_nextVoice_91 rfl rfl ?_
                        refine g_iald B 3 3 rfl (by decide) (vpc rfl) dX7_nextVoice_92 ?_
                        refine g_aload_n B 0 2 dX7_nextVoice_93 rfl rfl ?_
                        refine g_get (C := RX7) (T := TX7) (N := 35) B 6 0 12 (.ref (dd 13)) in_X7 rfl q934 rfl (Nat.le_of_ble_eq_true rfl) (fun _ h9 => h9) rfl dX7_nextVoice_94 ?_
                        refine g_iload_n B 1 1 dX7_nextVoice_97 rfl rfl ?_
                        refine g_iald B 3 x_23.toNatClampNeg rfl rfl (d_c_in ex_23 (by decide) (d_c_in ex_20 (by decide) (vpc rfl))) dX7_nextVoice_98 ?_
                        have j_25 : ∀ (x_26 : Int32), x_26 = d_c bg 3 x_23 → gW p l e (gRm 0 0 0 0) s m ([.ref (dd 0)] : List Value).toArray below meth c (MQ below (va_Qi (fun (r : Int32) (u : Nat) => r = nI u ∧ u = d_nxn sa la bg) (fun u t => gE g (va_A [((dd 0), cD dd di sm), ((dd 3), .inl (g.2.1, 4, .inl sa)), ((dd 4), .inl (g.2.1, 4, .inl la)), ((dd 13), .inl (g.2.1, 4, .inl bg))] sz) ((fun u : Nat => [((dd 0), cD dd di sm), ((dd 3), .inl (g.2.1, 4, .inl sa)), ((dd 4), .inl (g.2.1, 4, .inl la)), ((dd 13), .inl (g.2.1, 4, .inl bg))]) u) t) (va_A [((dd 0), cD dd di sm), ((dd 3), .inl (g.2.1, 4, .inl sa)), ((dd 4), .inl (g.2.1, 4, .inl la)), ((dd 13), .inl (g.2.1, 4, .inl bg))] sz)) ([.ref (dd 0)] : List Value).toArray s 0 0 (va_A [((dd 0), cD dd di sm), ((dd 3), .inl (g.2.1, 4, .inl sa)), ((dd 4), .inl (g.2.1, 4, .inl la)), ((dd 13), .inl (g.2.1, 4, .inl bg))] sz)) 3 g (va_A [((dd 0), cD dd di sm), ((dd 3), .inl (g.2.1, 4, .inl sa)), ((dd 4), .inl (g.2.1, 4, .inl la)), ((dd 13), .inl (g.2.1, 4, .inl bg))] sz) [((dd 0), cD dd di sm), ((dd 3), .inl (g.2.1, 4, .inl sa)), ((dd 4), .inl (g.2.1, 4, .inl la)), ((dd 13), .inl (g.2.1, 4, .inl bg))] [(1, .int x_26), (2, .int 3), (0, .ref (dd 0))] [] 104 0 0 := by
                          intro x_26 ex_26
                          refine g_iinc B 1 4 [(2, .int 4), (1, .int x_26), (0, .ref (dd 0))] dX7_nextVoice_104 rfl (by decide) (Nat.le_of_ble_eq_true rfl) rfl ?_
                          refine g_goto (tgt := 82) B dX7_nextVoice_107 (by decide) ?_
                          refine g_iload_n B 2 0 dX7_nextVoice_82 rfl rfl ?_
                          refine g_iconst (v := 4) B dX7_nextVoice_83 kc_4 ?_
                          refine g_icmp_ge_T (tgt := 110) B dX7_nextVoice_84 (by decide) (by decide) ?_
                          refine g_iload_n B 1 1 dX7_nextVoice_110 rfl rfl ?_
                          subst ex_7
                          subst ex_10
                          subst ex_13
                          subst ex_16
                          subst ex_20
                          subst ex_23
                          subst ex_26
                          exact g_iret B hr dX7_nextVoice_111 (Nat.le_of_ble_eq_true rfl) (Nat.le_of_ble_eq_true rfl) (d_nxn sa la bg) ⟨by rw [d_nxn_eq]; unfold d_nx d_b4 d_c4; rw [if_neg c_1, if_neg c_2, if_neg c_3, if_neg c_4, if_pos c_17] <;> rfl, rfl⟩ [0, 1, 2, 3] rfl rfl
                        refine g_icmp_ge (tgt := 104) B dX7_nextVoice_99 (by decide) (fun c_24 => ?_) (fun c_24 => ?_)
                        · skip
                          refine g_lv (lv' := [(1, .int x_23), (2, .int 3), (0, .ref (dd 0))]) [1, 0, 2] rfl ?_
                          exact j_25 _ (by first | rfl | (simp only [d_b, d_c, c3_0, if_neg c_1, if_neg c_2, if_neg c_3, if_neg c_4, if_pos c_17, if_pos c_24]; done) | (simp only [d_b, d_c, c3_0, if_neg c_1, if_neg c_2, if_neg c_3, if_neg c_4, if_pos c_17, if_pos c_24]; rfl))
                        · skip
                          refine g_iload_n B 2 0 dX7_nextVoice_102 rfl rfl ?_
                          refine g_istore_n B 1 [(1, .int 3), (2, .int 3), (0, .ref (dd 0))] dX7_nextVoice_103 rfl (Nat.le_of_ble_eq_true rfl) rfl ?_
                          exact j_25 _ (by first | rfl | (simp only [d_b, d_c, c3_0, if_neg c_1, if_neg c_2, if_neg c_3, if_neg c_4, if_pos c_17, if_neg c_24]; done) | (simp only [d_b, d_c, c3_0, if_neg c_1, if_neg c_2, if_neg c_3, if_neg c_4, if_pos c_17, if_neg c_24]; rfl))
                      refine g_icmp_ge (tgt := 104) B dX7_nextVoice_99 (by decide) (fun c_21 => ?_) (fun c_21 => ?_)
                      · skip
                        refine g_lv (lv' := [(1, .int x_20), (2, .int 2), (0, .ref (dd 0))]) [1, 0, 2] rfl ?_
                        exact j_22 _ (by first | rfl | (simp only [d_b, d_c, c3_0, if_neg c_1, if_neg c_2, if_neg c_3, if_neg c_4, if_pos c_17, if_pos c_21]; done) | (simp only [d_b, d_c, c3_0, if_neg c_1, if_neg c_2, if_neg c_3, if_neg c_4, if_pos c_17, if_pos c_21]; rfl))
                      · skip
                        refine g_iload_n B 2 0 dX7_nextVoice_102 rfl rfl ?_
                        refine g_istore_n B 1 [(1, .int 2), (2, .int 2), (0, .ref (dd 0))] dX7_nextVoice_103 rfl (Nat.le_of_ble_eq_true rfl) rfl ?_
                        exact j_22 _ (by first | rfl | (simp only [d_b, d_c, c3_0, if_neg c_1, if_neg c_2, if_neg c_3, if_neg c_4, if_pos c_17, if_neg c_21]; done) | (simp only [d_b, d_c, c3_0, if_neg c_1, if_neg c_2, if_neg c_3, if_neg c_4, if_pos c_17, if_neg c_21]; rfl))
                    refine g_icmp_ge (tgt := 104) B dX7_nextVoice_99 (by decide) (fun c_18 => ?_) (fun c_18 => ?_)
                    · skip
                      refine g_lv (lv' := [(1, .int 0), (2, .int 1), (0, .ref (dd 0))]) [1, 0, 2] rfl ?_
                      exact j_19 _ (by first | rfl | (simp only [d_b, d_c, c3_0, if_neg c_1, if_neg c_2, if_neg c_3, if_neg c_4, if_pos c_17, if_pos c_18]; done) | (simp only [d_b, d_c, c3_0, if_neg c_1, if_neg c_2, if_neg c_3, if_neg c_4, if_pos c_17, if_pos c_18]; rfl))
                    · skip
                      refine g_iload_n B 2 0 dX7_nextVoice_102 rfl rfl ?_
                      refine g_istore_n B 1 [(1, .int 1), (2, .int 1), (0, .ref (dd 0))] dX7_nextVoice_103 rfl (Nat.le_of_ble_eq_true rfl) rfl ?_
                      exact j_19 _ (by first | rfl | (simp only [d_b, d_c, c3_0, if_neg c_1, if_neg c_2, if_neg c_3, if_neg c_4, if_pos c_17, if_neg c_18]; done) | (simp only [d_b, d_c, c3_0, if_neg c_1, if_neg c_2, if_neg c_3, if_neg c_4, if_pos c_17, if_neg c_18]; rfl))
                  · skip
                    refine g_iload_n B 1 1 dX7_nextVoice_76 rfl rfl ?_
                    subst ex_7
                    subst ex_10
                    subst ex_13
                    subst ex_16
                    exact g_iret B hr dX7_nextVoice_77 (Nat.le_of_ble_eq_true rfl) (Nat.le_of_ble_eq_true rfl) (d_nxn sa la bg) ⟨by rw [d_nxn_eq]; unfold d_nx d_b4 d_c4; rw [if_neg c_1, if_neg c_2, if_neg c_3, if_neg c_4, if_neg c_17] <;> rfl, rfl⟩ [0, 1, 2, 3] rfl rfl
                refine g_icmp_ne (tgt := 65) B dX7_nextVoice_40 (by decide) (fun c_14 => ?_) (fun c_14 => ?_)
                · skip
                  refine g_lv (lv' := [(1, .int x_13), (2, .int 3), (0, .ref (dd 0))]) [1, 0, 2] rfl ?_
                  exact j_15 _ (by first | rfl | (simp only [d_b, d_c, c3_0, if_neg c_1, if_neg c_2, if_neg c_3, if_neg c_4, if_neg c_14]; done) | (simp only [d_b, d_c, c3_0, if_neg c_1, if_neg c_2, if_neg c_3, if_neg c_4, if_neg c_14]; rfl))
                · skip
                  refine g_iload_n B 1 1 dX7_nextVoice_43 rfl rfl ?_
                  refine g_iconst (v := (-1)) B dX7_nextVoice_44 kc_m1 ?_
                  refine g_icmp_eq (tgt := 63) B dX7_nextVoice_45 (by decide) (fun c_27 => ?_) (fun c_27 => ?_)
                  · skip
                    refine g_iload_n B 2 0 dX7_nextVoice_63 rfl rfl ?_
                    refine g_istore_n B 1 [(1, .int 3), (2, .int 3), (0, .ref (dd 0))] dX7_nextVoice_64 rfl (Nat.le_of_ble_eq_true rfl) rfl ?_
                    exact j_15 _ (by first | rfl | (simp only [d_b, d_c, c3_0, if_neg c_1, if_neg c_2, if_neg c_3, if_neg c_4, if_pos c_14, if_pos c_27]; done) | (simp only [d_b, d_c, c3_0, if_neg c_1, if_neg c_2, if_neg c_3, if_neg c_4, if_pos c_14, if_pos c_27]; rfl))
                  · skip
                    refine g_aload_n B 0 2 dX7_nextVoice_48 rfl rfl ?_
                    refine g_get (C := RX7) (T := TX7) (N := 35) B 6 0 3 (.ref (dd 4)) in_X7 rfl q916 rfl (Nat.le_of_ble_eq_true rfl) (fun _ h9 => h9) rfl dX7_nextVoice_49 ?_
                    refine g_iload_n B 2 0 dX7_nextVoice_52 rfl rfl ?_
                    refine g_iald B 2 3 rfl (by decide) (vpc rfl) dX7_nextVoice_53 ?_
                    refine g_aload_n B 0 2 dX7_nextVoice_54 rfl rfl ?_
                    refine g_get (C := RX7) (T := TX7) (N := 35) B 6 0 3 (.ref (dd 4)) in_X7 rfl q916 rfl (Nat.le_of_ble_eq_true rfl) (fun _ h9 => h9) rfl dX7_nextVoice_55 ?_
                    refine g_iload_n B 1 1 dX7_nextVoice_58 rfl rfl ?_
                    refine g_iald B 2 x_13.toNatClampNeg rfl rfl ((d_b_in ex_13 (by decide) (d_b_in ex_10 (by decide) (d_b_in ex_7 (by decide) (Or.inl rfl)))).resolve_left c_27) dX7_nextVoice_59 ?_
                    refine g_icmp_ge (tgt := 65) B dX7_nextVoice_60 (by decide) (fun c_28 => ?_) (fun c_28 => ?_)
                    · skip
                      refine g_lv (lv' := [(1, .int x_13), (2, .int 3), (0, .ref (dd 0))]) [1, 0, 2] rfl ?_
                      exact j_15 _ (by first | rfl | (simp only [d_b, d_c, c3_0, if_neg c_1, if_neg c_2, if_neg c_3, if_neg c_4, if_pos c_14, if_neg c_27, if_pos c_28]; done) | (simp only [d_b, d_c, c3_0, if_neg c_1, if_neg c_2, if_neg c_3, if_neg c_4, if_pos c_14, if_neg c_27, if_pos c_28]; rfl))
                    · skip
                      refine g_iload_n B 2 0 dX7_nextVoice_63 rfl rfl ?_
                      refine g_istore_n B 1 [(1, .int 3), (2, .int 3), (0, .ref (dd 0))] dX7_nextVoice_64 rfl (Nat.le_of_ble_eq_true rfl) rfl ?_
                      exact j_15 _ (by first | rfl | (simp only [d_b, d_c, c3_0, if_neg c_1, if_neg c_2, if_neg c_3, if_neg c_4, if_pos c_14, if_neg c_27, if_neg c_28]; done) | (simp only [d_b, d_c, c3_0, if_neg c_1, if_neg c_2, if_neg c_3, if_neg c_4, if_pos c_14, if_neg c_27, if_neg c_28]; rfl))
              refine g_icmp_ne (tgt := 65) B dX7_nextVoice_40 (by decide) (fun c_11 => ?_) (fun c_11 => ?_)
              · skip
                refine g_lv (lv' := [(1, .int x_10), (2, .int 2), (0, .ref (dd 0))]) [1, 0, 2] rfl ?_
                exact j_12 _ (by first | rfl | (simp only [d_b, d_c, c3_0, if_neg c_1, if_neg c_2, if_neg c_3, if_neg c_4, if_neg c_11]; done) | (simp only [d_b, d_c, c3_0, if_neg c_1, if_neg c_2, if_neg c_3, if_neg c_4, if_neg c_11]; rfl))
              · skip
                refine g_iload_n B 1 1 dX7_nextVoice_43 rfl rfl ?_
                refine g_iconst (v := (-1)) B dX7_nextVoice_44 kc_m1 ?_
                refine g_icmp_eq (tgt := 63) B dX7_nextVoice_45 (by decide) (fun c_29 => ?_) (fun c_29 => ?_)
                · skip
                  refine g_iload_n B 2 0 dX7_nextVoice_63 rfl rfl ?_
                  refine g_istore_n B 1 [(1, .int 2), (2, .int 2), (0, .ref (dd 0))] dX7_nextVoice_64 rfl (Nat.le_of_ble_eq_true rfl) rfl ?_
                  exact j_12 _ (by first | rfl | (simp only [d_b, d_c, c3_0, if_neg c_1, if_neg c_2, if_neg c_3, if_neg c_4, if_pos c_11, if_pos c_29]; done) | (simp only [d_b, d_c, c3_0, if_neg c_1, if_neg c_2, if_neg c_3, if_neg c_4, if_pos c_11, if_pos c_29]; rfl))
                · skip
                  refine g_aload_n B 0 2 dX7_nextVoice_48 rfl rfl ?_
                  refine g_get (C := RX7) (T := TX7) (N := 35) B 6 0 3 (.ref (dd 4)) in_X7 rfl q916 rfl (Nat.le_of_ble_eq_true rfl) (fun _ h9 => h9) rfl dX7_nextVoice_49 ?_
                  refine g_iload_n B 2 0 dX7_nextVoice_52 rfl rfl ?_
                  refine g_iald B 2 2 rfl (by decide) (vpc rfl) dX7_nextVoice_53 ?_
                  refine g_aload_n B 0 2 dX7_nextVoice_54 rfl rfl ?_
                  refine g_get (C := RX7) (T := TX7) (N := 35) B 6 0 3 (.ref (dd 4)) in_X7 rfl q916 rfl (Nat.le_of_ble_eq_true rfl) (fun _ h9 => h9) rfl dX7_nextVoice_55 ?_
                  refine g_iload_n B 1 1 dX7_nextVoice_58 rfl rfl ?_
                  refine g_iald B 2 x_10.toNatClampNeg rfl rfl ((d_b_in ex_10 (by decide) (d_b_in ex_7 (by decide) (Or.inl rfl))).resolve_left c_29) dX7_nextVoice_59 ?_
                  refine g_icmp_ge (tgt := 65) B dX7_nextVoice_60 (by decide) (fun c_30 => ?_) (fun c_30 => ?_)
                  · skip
                    refine g_lv (lv' := [(1, .int x_10), (2, .int 2), (0, .ref (dd 0))]) [1, 0, 2] rfl ?_
                    exact j_12 _ (by first | rfl | (simp only [d_b, d_c, c3_0, if_neg c_1, if_neg c_2, if_neg c_3, if_neg c_4, if_pos c_11, if_neg c_29, if_pos c_30]; done) | (simp only [d_b, d_c, c3_0, if_neg c_1, if_neg c_2, if_neg c_3, if_neg c_4, if_pos c_11, if_neg c_29, if_pos c_30]; rfl))
                  · skip
                    refine g_iload_n B 2 0 dX7_nextVoice_63 rfl rfl ?_
                    refine g_istore_n B 1 [(1, .int 2), (2, .int 2), (0, .ref (dd 0))] dX7_nextVoice_64 rfl (Nat.le_of_ble_eq_true rfl) rfl ?_
                    exact j_12 _ (by first | rfl | (simp only [d_b, d_c, c3_0, if_neg c_1, if_neg c_2, if_neg c_3, if_neg c_4, if_pos c_11, if_neg c_29, if_neg c_30]; done) | (simp only [d_b, d_c, c3_0, if_neg c_1, if_neg c_2, if_neg c_3, if_neg c_4, if_pos c_11, if_neg c_29, if_neg c_30]; rfl))
            refine g_icmp_ne (tgt := 65) B dX7_nextVoice_40 (by decide) (fun c_8 => ?_) (fun c_8 => ?_)
            · skip
              refine g_lv (lv' := [(1, .int x_7), (2, .int 1), (0, .ref (dd 0))]) [1, 0, 2] rfl ?_
              exact j_9 _ (by first | rfl | (simp only [d_b, d_c, c3_0, if_neg c_1, if_neg c_2, if_neg c_3, if_neg c_4, if_neg c_8]; done) | (simp only [d_b, d_c, c3_0, if_neg c_1, if_neg c_2, if_neg c_3, if_neg c_4, if_neg c_8]; rfl))
            · skip
              refine g_iload_n B 1 1 dX7_nextVoice_43 rfl rfl ?_
              refine g_iconst (v := (-1)) B dX7_nextVoice_44 kc_m1 ?_
              refine g_icmp_eq (tgt := 63) B dX7_nextVoice_45 (by decide) (fun c_31 => ?_) (fun c_31 => ?_)
              · skip
                refine g_iload_n B 2 0 dX7_nextVoice_63 rfl rfl ?_
                refine g_istore_n B 1 [(1, .int 1), (2, .int 1), (0, .ref (dd 0))] dX7_nextVoice_64 rfl (Nat.le_of_ble_eq_true rfl) rfl ?_
                exact j_9 _ (by first | rfl | (simp only [d_b, d_c, c3_0, if_neg c_1, if_neg c_2, if_neg c_3, if_neg c_4, if_pos c_8, if_pos c_31]; done) | (simp only [d_b, d_c, c3_0, if_neg c_1, if_neg c_2, if_neg c_3, if_neg c_4, if_pos c_8, if_pos c_31]; rfl))
              · skip
                refine g_aload_n B 0 2 dX7_nextVoice_48 rfl rfl ?_
                refine g_get (C := RX7) (T := TX7) (N := 35) B 6 0 3 (.ref (dd 4)) in_X7 rfl q916 rfl (Nat.le_of_ble_eq_true rfl) (fun _ h9 => h9) rfl dX7_nextVoice_49 ?_
                refine g_iload_n B 2 0 dX7_nextVoice_52 rfl rfl ?_
                refine g_iald B 2 1 rfl (by decide) (vpc rfl) dX7_nextVoice_53 ?_
                refine g_aload_n B 0 2 dX7_nextVoice_54 rfl rfl ?_
                refine g_get (C := RX7) (T := TX7) (N := 35) B 6 0 3 (.ref (dd 4)) in_X7 rfl q916 rfl (Nat.le_of_ble_eq_true rfl) (fun _ h9 => h9) rfl dX7_nextVoice_55 ?_
                refine g_iload_n B 1 1 dX7_nextVoice_58 rfl rfl ?_
                refine g_iald B 2 x_7.toNatClampNeg rfl rfl ((d_b_in ex_7 (by decide) (Or.inl rfl)).resolve_left c_31) dX7_nextVoice_59 ?_
                refine g_icmp_ge (tgt := 65) B dX7_nextVoice_60 (by decide) (fun c_32 => ?_) (fun c_32 => ?_)
                · skip
                  refine g_lv (lv' := [(1, .int x_7), (2, .int 1), (0, .ref (dd 0))]) [1, 0, 2] rfl ?_
                  exact j_9 _ (by first | rfl | (simp only [d_b, d_c, c3_0, if_neg c_1, if_neg c_2, if_neg c_3, if_neg c_4, if_pos c_8, if_neg c_31, if_pos c_32]; done) | (simp only [d_b, d_c, c3_0, if_neg c_1, if_neg c_2, if_neg c_3, if_neg c_4, if_pos c_8, if_neg c_31, if_pos c_32]; rfl))
                · skip
                  refine g_iload_n B 2 0 dX7_nextVoice_63 rfl rfl ?_
                  refine g_istore_n B 1 [(1, .int 1), (2, .int 1), (0, .ref (dd 0))] dX7_nextVoice_64 rfl (Nat.le_of_ble_eq_true rfl) rfl ?_
                  exact j_9 _ (by first | rfl | (simp only [d_b, d_c, c3_0, if_neg c_1, if_neg c_2, if_neg c_3, if_neg c_4, if_pos c_8, if_neg c_31, if_neg c_32]; done) | (simp only [d_b, d_c, c3_0, if_neg c_1, if_neg c_2, if_neg c_3, if_neg c_4, if_pos c_8, if_neg c_31, if_neg c_32]; rfl))
          refine g_icmp_ne (tgt := 65) B dX7_nextVoice_40 (by decide) (fun c_5 => ?_) (fun c_5 => ?_)
          · skip
            refine g_lv (lv' := [(1, .int (-1)), (2, .int 0), (0, .ref (dd 0))]) [1, 0, 2] rfl ?_
            exact j_6 _ (by first | rfl | (simp only [d_b, d_c, c3_0, if_neg c_1, if_neg c_2, if_neg c_3, if_neg c_4, if_neg c_5]; done) | (simp only [d_b, d_c, c3_0, if_neg c_1, if_neg c_2, if_neg c_3, if_neg c_4, if_neg c_5]; rfl))
          · skip
            refine g_iload_n B 1 1 dX7_nextVoice_43 rfl rfl ?_
            refine g_iconst (v := (-1)) B dX7_nextVoice_44 kc_m1 ?_
            refine g_icmp_eq_T (tgt := 63) B dX7_nextVoice_45 (by decide) (by decide) ?_
            refine g_iload_n B 2 0 dX7_nextVoice_63 rfl rfl ?_
            refine g_istore_n B 1 [(1, .int 0), (2, .int 0), (0, .ref (dd 0))] dX7_nextVoice_64 rfl (Nat.le_of_ble_eq_true rfl) rfl ?_
            exact j_6 _ (by first | rfl | (simp only [d_b, d_c, c3_0, if_neg c_1, if_neg c_2, if_neg c_3, if_neg c_4, if_pos c_5]; done) | (simp only [d_b, d_c, c3_0, if_neg c_1, if_neg c_2, if_neg c_3, if_neg c_4, if_pos c_5]; rfl))
        · skip
          refine g_iload_n B 1 0 dX7_nextVoice_16 rfl rfl ?_
          exact g_iret B hr dX7_nextVoice_17 (Nat.le_of_ble_eq_true rfl) (Nat.le_of_ble_eq_true rfl) (d_nxn sa la bg) ⟨by rw [d_nxn_eq]; unfold d_nx d_b4 d_c4; rw [if_neg c_1, if_neg c_2, if_neg c_3, if_pos c_4] <;> rfl, rfl⟩ [0, 1, 2, 3] rfl rfl
      · skip
        refine g_iload_n B 1 0 dX7_nextVoice_16 rfl rfl ?_
        exact g_iret B hr dX7_nextVoice_17 (Nat.le_of_ble_eq_true rfl) (Nat.le_of_ble_eq_true rfl) (d_nxn sa la bg) ⟨by rw [d_nxn_eq]; unfold d_nx d_b4 d_c4; rw [if_neg c_1, if_neg c_2, if_pos c_3] <;> rfl, rfl⟩ [0, 1, 2, 3] rfl rfl
    · skip
      refine g_iload_n B 1 0 dX7_nextVoice_16 rfl rfl ?_
      exact g_iret B hr dX7_nextVoice_17 (Nat.le_of_ble_eq_true rfl) (Nat.le_of_ble_eq_true rfl) (d_nxn sa la bg) ⟨by rw [d_nxn_eq]; unfold d_nx d_b4 d_c4; rw [if_neg c_1, if_pos c_2] <;> rfl, rfl⟩ [0, 1, 2, 3] rfl rfl
  · skip
    refine g_iload_n B 1 0 dX7_nextVoice_16 rfl rfl ?_
    exact g_iret B hr dX7_nextVoice_17 (Nat.le_of_ble_eq_true rfl) (Nat.le_of_ble_eq_true rfl) (d_nxn sa la bg) ⟨by rw [d_nxn_eq]; unfold d_nx d_b4 d_c4; rw [if_pos c_1] <;> rfl, rfl⟩ [0, 1, 2, 3] rfl rfl

set_option maxHeartbeats 4000000 in
set_option maxRecDepth 100000 in
theorem m_X7_begin (l : Launch) (hst : l.stackTraces = false) (g : gG) (dd : Nat → Nat) (di : Nat → Int32) (sm : Int64) (da : Nat → Nat → Int32) (its pi fo ga : Int32) : gMi l yX7_begin cX7_begin 6 .int 1 22 0 0 g [((dd 0), cD dd di sm), ((dd 3), .inl (g.2.1, 4, .inl (da 3))), ((dd 4), .inl (g.2.1, 4, .inl (da 4))), ((dd 5), .inl (g.2.1, 4, .inl (da 5))), ((dd 6), .inl (g.2.1, 4, .inl (da 6))), ((dd 7), .inl (g.2.1, 4, .inl (da 7))), ((dd 8), .inl (g.2.1, 4, .inl (da 8))), ((dd 9), .inl (g.2.1, 4, .inl (da 9))), ((dd 10), .inl (g.2.1, 4, .inl (da 10))), ((dd 11), .inl (g.2.1, 4, .inl (da 11))), ((dd 12), .inl (g.2.1, 4, .inl (da 12))), ((dd 13), .inl (g.2.1, 4, .inl (da 13)))] [.ref (dd 0), .int its, .int pi, .int fo, .int ga] (fun (r : Int32) (_ : Unit) => r = nI (d_v da)) (fun _ : Unit => [((dd 0), cD dd (d_bi da di) sm), ((dd 3), .inl (g.2.1, 4, .inl ((d_be da di its pi fo ga) 3))), ((dd 4), .inl (g.2.1, 4, .inl ((d_be da di its pi fo ga) 4))), ((dd 5), .inl (g.2.1, 4, .inl ((d_be da di its pi fo ga) 5))), ((dd 6), .inl (g.2.1, 4, .inl ((d_be da di its pi fo ga) 6))), ((dd 7), .inl (g.2.1, 4, .inl ((d_be da di its pi fo ga) 7))), ((dd 8), .inl (g.2.1, 4, .inl ((d_be da di its pi fo ga) 8))), ((dd 9), .inl (g.2.1, 4, .inl ((d_be da di its pi fo ga) 9))), ((dd 10), .inl (g.2.1, 4, .inl ((d_be da di its pi fo ga) 10))), ((dd 11), .inl (g.2.1, 4, .inl ((d_be da di its pi fo ga) 11))), ((dd 12), .inl (g.2.1, 4, .inl ((d_be da di its pi fo ga) 12))), ((dd 13), .inl (g.2.1, 4, .inl ((d_be da di its pi fo ga) 13)))]) := by
  intro sz
  refine g_ent (by decide) hst [(0, .ref (dd 0)), (1, .int its), (2, .int pi), (3, .int fo), (4, .int ga)] (Nat.le_of_ble_eq_true rfl) rfl ?_
  intro p e s m below meth c B hr hnm hsz
  have B : gB p l s m ([.ref (dd 0), .int its, .int pi, .int fo, .int ga] : List Value).toArray meth c RX7 cX7_begin 6 g (va_A [((dd 0), cD dd di sm), ((dd 3), .inl (g.2.1, 4, .inl (da 3))), ((dd 4), .inl (g.2.1, 4, .inl (da 4))), ((dd 5), .inl (g.2.1, 4, .inl (da 5))), ((dd 6), .inl (g.2.1, 4, .inl (da 6))), ((dd 7), .inl (g.2.1, 4, .inl (da 7))), ((dd 8), .inl (g.2.1, 4, .inl (da 8))), ((dd 9), .inl (g.2.1, 4, .inl (da 9))), ((dd 10), .inl (g.2.1, 4, .inl (da 10))), ((dd 11), .inl (g.2.1, 4, .inl (da 11))), ((dd 12), .inl (g.2.1, 4, .inl (da 12))), ((dd 13), .inl (g.2.1, 4, .inl (da 13)))] sz) := B
  refine g_aload_n B 0 0 dX7_begin_0 rfl rfl ?_
  refine g_cuV_i (C := RX7) (T := TX7) (N := 35) (As := []) B (m_X7_nextVoice l hst g dd di sm (da 3) (da 4) (da 13)) 6 0 rfl rfl [0, 1, 2, 11] [] (lw_V q1133 q1134 q1135 q39 q1136) nvX7_nextVoice rfl rfl rfl rfl (Nat.le_of_ble_eq_true rfl) dX7_begin_1 ⟨Nat.le_of_ble_eq_true rfl, Nat.le_of_ble_eq_true rfl⟩ ⟨Nat.le_of_ble_eq_true rfl, Nat.le_of_ble_eq_true rfl⟩ (fun r_1 ur_1 hr_1 => ?_)
  obtain rfl : nI ur_1 = r_1 := hr_1.1.symm
  have hur_1 := hr_1.2
  have hlr_1 : ur_1 < 4 := by rw [hur_1]; exact d_nxn_lt _ _ _
  refine g_istore B [(5, .int (nI ur_1)), (0, .ref (dd 0)), (1, .int its), (2, .int pi), (3, .int fo), (4, .int ga)] dX7_begin_4 (Nat.le_of_ble_eq_true rfl) rfl ?_
  refine g_aload_n B 0 1 dX7_begin_6 rfl rfl ?_
  refine g_dup B dX7_begin_7 rfl ?_
  refine g_get (C := RX7) (T := TX7) (N := 35) B 6 0 14 (.int (di 1)) in_X7 rfl q936 rfl (Nat.le_of_ble_eq_true rfl) (fun _ h9 => h9) rfl dX7_begin_8 ?_
  refine g_aload_n B 0 1 dX7_begin_11 rfl rfl ?_
  refine g_get (C := RX7) (T := TX7) (N := 35) B 6 0 2 (.ref (dd 3)) in_X7 rfl q914 rfl (Nat.le_of_ble_eq_true rfl) (fun _ h9 => h9) rfl dX7_begin_12 ?_
  refine g_iload B 0 dX7_begin_15 rfl ?_
  refine g_iald B 1 ur_1 rfl (nI_clamp (by omega)) (vp_in_nI (by omega) (by omega)) dX7_begin_17 ?_
  have j_3 : ∀ (x_4 : Int32), x_4 = mk_c ((da 3) ur_1) → gW p l e (gRm 1 22 0 0) s m ([.ref (dd 0), .int its, .int pi, .int fo, .int ga] : List Value).toArray below meth c (MQ below (va_Qi (fun (r : Int32) (_ : Unit) => r = nI (d_v da)) (fun u t => gE g (va_A [((dd 0), cD dd di sm), ((dd 3), .inl (g.2.1, 4, .inl (da 3))), ((dd 4), .inl (g.2.1, 4, .inl (da 4))), ((dd 5), .inl (g.2.1, 4, .inl (da 5))), ((dd 6), .inl (g.2.1, 4, .inl (da 6))), ((dd 7), .inl (g.2.1, 4, .inl (da 7))), ((dd 8), .inl (g.2.1, 4, .inl (da 8))), ((dd 9), .inl (g.2.1, 4, .inl (da 9))), ((dd 10), .inl (g.2.1, 4, .inl (da 10))), ((dd 11), .inl (g.2.1, 4, .inl (da 11))), ((dd 12), .inl (g.2.1, 4, .inl (da 12))), ((dd 13), .inl (g.2.1, 4, .inl (da 13)))] sz) ((fun _ : Unit => [((dd 0), cD dd (d_bi da di) sm), ((dd 3), .inl (g.2.1, 4, .inl ((d_be da di its pi fo ga) 3))), ((dd 4), .inl (g.2.1, 4, .inl ((d_be da di its pi fo ga) 4))), ((dd 5), .inl (g.2.1, 4, .inl ((d_be da di its pi fo ga) 5))), ((dd 6), .inl (g.2.1, 4, .inl ((d_be da di its pi fo ga) 6))), ((dd 7), .inl (g.2.1, 4, .inl ((d_be da di its pi fo ga) 7))), ((dd 8), .inl (g.2.1, 4, .inl ((d_be da di its pi fo ga) 8))), ((dd 9), .inl (g.2.1, 4, .inl ((d_be da di its pi fo ga) 9))), ((dd 10), .inl (g.2.1, 4, .inl ((d_be da di its pi fo ga) 10))), ((dd 11), .inl (g.2.1, 4, .inl ((d_be da di its pi fo ga) 11))), ((dd 12), .inl (g.2.1, 4, .inl ((d_be da di its pi fo ga) 12))), ((dd 13), .inl (g.2.1, 4, .inl ((d_be da di its pi fo ga) 13)))]) u) t) (va_A [((dd 0), cD dd di sm), ((dd 3), .inl (g.2.1, 4, .inl (da 3))), ((dd 4), .inl (g.2.1, 4, .inl (da 4))), ((dd 5), .inl (g.2.1, 4, .inl (da 5))), ((dd 6), .inl (g.2.1, 4, .inl (da 6))), ((dd 7), .inl (g.2.1, 4, .inl (da 7))), ((dd 8), .inl (g.2.1, 4, .inl (da 8))), ((dd 9), .inl (g.2.1, 4, .inl (da 9))), ((dd 10), .inl (g.2.1, 4, .inl (da 10))), ((dd 11), .inl (g.2.1, 4, .inl (da 11))), ((dd 12), .inl (g.2.1, 4, .inl (da 12))), ((dd 13), .inl (g.2.1, 4, .inl (da 13)))] sz)) ([.ref (dd 0), .int its, .int pi, .int fo, .int ga] : List Value).toArray s 0 0 (va_A [((dd 0), cD dd di sm), ((dd 3), .inl (g.2.1, 4, .inl (da 3))), ((dd 4), .inl (g.2.1, 4, .inl (da 4))), ((dd 5), .inl (g.2.1, 4, .inl (da 5))), ((dd 6), .inl (g.2.1, 4, .inl (da 6))), ((dd 7), .inl (g.2.1, 4, .inl (da 7))), ((dd 8), .inl (g.2.1, 4, .inl (da 8))), ((dd 9), .inl (g.2.1, 4, .inl (da 9))), ((dd 10), .inl (g.2.1, 4, .inl (da 10))), ((dd 11), .inl (g.2.1, 4, .inl (da 11))), ((dd 12), .inl (g.2.1, 4, .inl (da 12))), ((dd 13), .inl (g.2.1, 4, .inl (da 13)))] sz)) 6 g (va_A [((dd 0), cD dd di sm), ((dd 3), .inl (g.2.1, 4, .inl (da 3))), ((dd 4), .inl (g.2.1, 4, .inl (da 4))), ((dd 5), .inl (g.2.1, 4, .inl (da 5))), ((dd 6), .inl (g.2.1, 4, .inl (da 6))), ((dd 7), .inl (g.2.1, 4, .inl (da 7))), ((dd 8), .inl (g.2.1, 4, .inl (da 8))), ((dd 9), .inl (g.2.1, 4, .inl (da 9))), ((dd 10), .inl (g.2.1, 4, .inl (da 10))), ((dd 11), .inl (g.2.1, 4, .inl (da 11))), ((dd 12), .inl (g.2.1, 4, .inl (da 12))), ((dd 13), .inl (g.2.1, 4, .inl (da 13)))] sz) [((dd 0), cD dd di sm), ((dd 3), .inl (g.2.1, 4, .inl (da 3))), ((dd 4), .inl (g.2.1, 4, .inl (da 4))), ((dd 5), .inl (g.2.1, 4, .inl (da 5))), ((dd 6), .inl (g.2.1, 4, .inl (da 6))), ((dd 7), .inl (g.2.1, 4, .inl (da 7))), ((dd 8), .inl (g.2.1, 4, .inl (da 8))), ((dd 9), .inl (g.2.1, 4, .inl (da 9))), ((dd 10), .inl (g.2.1, 4, .inl (da 10))), ((dd 11), .inl (g.2.1, 4, .inl (da 11))), ((dd 12), .inl (g.2.1, 4, .inl (da 12))), ((dd 13), .inl (g.2.1, 4, .inl (da 13)))] [(5, .int (nI ur_1)), (0, .ref (dd 0)), (1, .int its), (2, .int pi), (3, .int fo), (4, .int ga)] [.int x_4, .int (di 1), .ref (dd 0)] 26 0 0 := by
    intro x_4 ex_4
    refine g_iadd B dX7_begin_26 ?_
    refine g_put (C := RX7) (T := TX7) (N := 35) (ty := .int) (v := .int ((di 1) + x_4)) B 6 0 14 [((dd 0), cD dd (upd di 1 ((di 1) + x_4)) sm), ((dd 3), .inl (g.2.1, 4, .inl (da 3))), ((dd 4), .inl (g.2.1, 4, .inl (da 4))), ((dd 5), .inl (g.2.1, 4, .inl (da 5))), ((dd 6), .inl (g.2.1, 4, .inl (da 6))), ((dd 7), .inl (g.2.1, 4, .inl (da 7))), ((dd 8), .inl (g.2.1, 4, .inl (da 8))), ((dd 9), .inl (g.2.1, 4, .inl (da 9))), ((dd 10), .inl (g.2.1, 4, .inl (da 10))), ((dd 11), .inl (g.2.1, 4, .inl (da 11))), ((dd 12), .inl (g.2.1, 4, .inl (da 12))), ((dd 13), .inl (g.2.1, 4, .inl (da 13)))] in_X7 tyX7 tyX7_ok nmX7 rfl q936 rfl (Nat.le_of_ble_eq_true rfl) (fun _ h9 => h9) rfl rfl rfl rfl (Nat.le_of_ble_eq_true rfl) rfl dX7_begin_27 ?_
    refine g_aload_n B 0 1 dX7_begin_30 rfl rfl ?_
    refine g_get (C := RX7) (T := TX7) (N := 35) B 6 0 2 (.ref (dd 3)) in_X7 rfl q914 rfl (Nat.le_of_ble_eq_true rfl) (fun _ h9 => h9) rfl dX7_begin_31 ?_
    refine g_iload B 0 dX7_begin_34 rfl ?_
    refine g_iconst (v := 1) B dX7_begin_36 kc_1 ?_
    refine g_iast B 1 ur_1 [((dd 0), cD dd (upd di 1 ((di 1) + x_4)) sm), ((dd 3), .inl (g.2.1, 4, .inl (upd (da 3) ur_1 1))), ((dd 4), .inl (g.2.1, 4, .inl (da 4))), ((dd 5), .inl (g.2.1, 4, .inl (da 5))), ((dd 6), .inl (g.2.1, 4, .inl (da 6))), ((dd 7), .inl (g.2.1, 4, .inl (da 7))), ((dd 8), .inl (g.2.1, 4, .inl (da 8))), ((dd 9), .inl (g.2.1, 4, .inl (da 9))), ((dd 10), .inl (g.2.1, 4, .inl (da 10))), ((dd 11), .inl (g.2.1, 4, .inl (da 11))), ((dd 12), .inl (g.2.1, 4, .inl (da 12))), ((dd 13), .inl (g.2.1, 4, .inl (da 13)))] rfl (nI_clamp (by omega)) (vp_in_nI (by omega) (by omega)) rfl dX7_begin_37 ?_
    refine g_aload_n B 0 1 dX7_begin_38 rfl rfl ?_
    refine g_get (C := RX7) (T := TX7) (N := 35) B 6 0 4 (.ref (dd 5)) in_X7 rfl q918 rfl (Nat.le_of_ble_eq_true rfl) (fun _ h9 => h9) rfl dX7_begin_39 ?_
    refine g_iload B 0 dX7_begin_42 rfl ?_
    refine g_iload_n B 1 2 dX7_begin_44 rfl rfl ?_
    refine g_iast B 3 ur_1 [((dd 0), cD dd (upd di 1 ((di 1) + x_4)) sm), ((dd 3), .inl (g.2.1, 4, .inl (upd (da 3) ur_1 1))), ((dd 4), .inl (g.2.1, 4, .inl (da 4))), ((dd 5), .inl (g.2.1, 4, .inl (upd (da 5) ur_1 its))), ((dd 6), .inl (g.2.1, 4, .inl (da 6))), ((dd 7), .inl (g.2.1, 4, .inl (da 7))), ((dd 8), .inl (g.2.1, 4, .inl (da 8))), ((dd 9), .inl (g.2.1, 4, .inl (da 9))), ((dd 10), .inl (g.2.1, 4, .inl (da 10))), ((dd 11), .inl (g.2.1, 4, .inl (da 11))), ((dd 12), .inl (g.2.1, 4, .inl (da 12))), ((dd 13), .inl (g.2.1, 4, .inl (da 13)))] rfl (nI_clamp (by omega)) (vp_in_nI (by omega) (by omega)) rfl dX7_begin_45 ?_
    refine g_aload_n B 0 1 dX7_begin_46 rfl rfl ?_
    refine g_get (C := RX7) (T := TX7) (N := 35) B 6 0 5 (.ref (dd 6)) in_X7 rfl q920 rfl (Nat.le_of_ble_eq_true rfl) (fun _ h9 => h9) rfl dX7_begin_47 ?_
    refine g_iload B 0 dX7_begin_50 rfl ?_
    refine g_iload_n B 2 3 dX7_begin_52 rfl rfl ?_
    refine g_iast B 4 ur_1 [((dd 0), cD dd (upd di 1 ((di 1) + x_4)) sm), ((dd 3), .inl (g.2.1, 4, .inl (upd (da 3) ur_1 1))), ((dd 4), .inl (g.2.1, 4, .inl (da 4))), ((dd 5), .inl (g.2.1, 4, .inl (upd (da 5) ur_1 its))), ((dd 6), .inl (g.2.1, 4, .inl (upd (da 6) ur_1 pi))), ((dd 7), .inl (g.2.1, 4, .inl (da 7))), ((dd 8), .inl (g.2.1, 4, .inl (da 8))), ((dd 9), .inl (g.2.1, 4, .inl (da 9))), ((dd 10), .inl (g.2.1, 4, .inl (da 10))), ((dd 11), .inl (g.2.1, 4, .inl (da 11))), ((dd 12), .inl (g.2.1, 4, .inl (da 12))), ((dd 13), .inl (g.2.1, 4, .inl (da 13)))] rfl (nI_clamp (by omega)) (vp_in_nI (by omega) (by omega)) rfl dX7_begin_53 ?_
    refine g_aload_n B 0 1 dX7_begin_54 rfl rfl ?_
    refine g_get (C := RX7) (T := TX7) (N := 35) B 6 0 6 (.ref (dd 7)) in_X7 rfl q922 rfl (Nat.le_of_ble_eq_true rfl) (fun _ h9 => h9) rfl dX7_begin_55 ?_
    refine g_iload B 0 dX7_begin_58 rfl ?_
    refine g_iload_n B 3 4 dX7_begin_60 rfl rfl ?_
    refine g_iast B 5 ur_1 [((dd 0), cD dd (upd di 1 ((di 1) + x_4)) sm), ((dd 3), .inl (g.2.1, 4, .inl (upd (da 3) ur_1 1))), ((dd 4), .inl (g.2.1, 4, .inl (da 4))), ((dd 5), .inl (g.2.1, 4, .inl (upd (da 5) ur_1 its))), ((dd 6), .inl (g.2.1, 4, .inl (upd (da 6) ur_1 pi))), ((dd 7), .inl (g.2.1, 4, .inl (upd (da 7) ur_1 fo))), ((dd 8), .inl (g.2.1, 4, .inl (da 8))), ((dd 9), .inl (g.2.1, 4, .inl (da 9))), ((dd 10), .inl (g.2.1, 4, .inl (da 10))), ((dd 11), .inl (g.2.1, 4, .inl (da 11))), ((dd 12), .inl (g.2.1, 4, .inl (da 12))), ((dd 13), .inl (g.2.1, 4, .inl (da 13)))] rfl (nI_clamp (by omega)) (vp_in_nI (by omega) (by omega)) rfl dX7_begin_61 ?_
    refine g_aload_n B 0 1 dX7_begin_62 rfl rfl ?_
    refine g_get (C := RX7) (T := TX7) (N := 35) B 6 0 7 (.ref (dd 8)) in_X7 rfl q924 rfl (Nat.le_of_ble_eq_true rfl) (fun _ h9 => h9) rfl dX7_begin_63 ?_
    refine g_iload B 0 dX7_begin_66 rfl ?_
    refine g_iconst (v := 0) B dX7_begin_68 kc_0 ?_
    refine g_iast B 6 ur_1 [((dd 0), cD dd (upd di 1 ((di 1) + x_4)) sm), ((dd 3), .inl (g.2.1, 4, .inl (upd (da 3) ur_1 1))), ((dd 4), .inl (g.2.1, 4, .inl (da 4))), ((dd 5), .inl (g.2.1, 4, .inl (upd (da 5) ur_1 its))), ((dd 6), .inl (g.2.1, 4, .inl (upd (da 6) ur_1 pi))), ((dd 7), .inl (g.2.1, 4, .inl (upd (da 7) ur_1 fo))), ((dd 8), .inl (g.2.1, 4, .inl (upd (da 8) ur_1 0))), ((dd 9), .inl (g.2.1, 4, .inl (da 9))), ((dd 10), .inl (g.2.1, 4, .inl (da 10))), ((dd 11), .inl (g.2.1, 4, .inl (da 11))), ((dd 12), .inl (g.2.1, 4, .inl (da 12))), ((dd 13), .inl (g.2.1, 4, .inl (da 13)))] rfl (nI_clamp (by omega)) (vp_in_nI (by omega) (by omega)) rfl dX7_begin_69 ?_
    refine g_aload_n B 0 1 dX7_begin_70 rfl rfl ?_
    refine g_get (C := RX7) (T := TX7) (N := 35) B 6 0 8 (.ref (dd 9)) in_X7 rfl q926 rfl (Nat.le_of_ble_eq_true rfl) (fun _ h9 => h9) rfl dX7_begin_71 ?_
    refine g_iload B 0 dX7_begin_74 rfl ?_
    refine g_iconst (v := 0) B dX7_begin_76 kc_0 ?_
    refine g_iast B 7 ur_1 [((dd 0), cD dd (upd di 1 ((di 1) + x_4)) sm), ((dd 3), .inl (g.2.1, 4, .inl (upd (da 3) ur_1 1))), ((dd 4), .inl (g.2.1, 4, .inl (da 4))), ((dd 5), .inl (g.2.1, 4, .inl (upd (da 5) ur_1 its))), ((dd 6), .inl (g.2.1, 4, .inl (upd (da 6) ur_1 pi))), ((dd 7), .inl (g.2.1, 4, .inl (upd (da 7) ur_1 fo))), ((dd 8), .inl (g.2.1, 4, .inl (upd (da 8) ur_1 0))), ((dd 9), .inl (g.2.1, 4, .inl (upd (da 9) ur_1 0))), ((dd 10), .inl (g.2.1, 4, .inl (da 10))), ((dd 11), .inl (g.2.1, 4, .inl (da 11))), ((dd 12), .inl (g.2.1, 4, .inl (da 12))), ((dd 13), .inl (g.2.1, 4, .inl (da 13)))] rfl (nI_clamp (by omega)) (vp_in_nI (by omega) (by omega)) rfl dX7_begin_77 ?_
    refine g_aload_n B 0 1 dX7_begin_78 rfl rfl ?_
    refine g_get (C := RX7) (T := TX7) (N := 35) B 6 0 9 (.ref (dd 10)) in_X7 rfl q928 rfl (Nat.le_of_ble_eq_true rfl) (fun _ h9 => h9) rfl dX7_begin_79 ?_
    refine g_iload B 0 dX7_begin_82 rfl ?_
    refine g_iconst (v := 0) B dX7_begin_84 kc_0 ?_
    refine g_iast B 8 ur_1 [((dd 0), cD dd (upd di 1 ((di 1) + x_4)) sm), ((dd 3), .inl (g.2.1, 4, .inl (upd (da 3) ur_1 1))), ((dd 4), .inl (g.2.1, 4, .inl (da 4))), ((dd 5), .inl (g.2.1, 4, .inl (upd (da 5) ur_1 its))), ((dd 6), .inl (g.2.1, 4, .inl (upd (da 6) ur_1 pi))), ((dd 7), .inl (g.2.1, 4, .inl (upd (da 7) ur_1 fo))), ((dd 8), .inl (g.2.1, 4, .inl (upd (da 8) ur_1 0))), ((dd 9), .inl (g.2.1, 4, .inl (upd (da 9) ur_1 0))), ((dd 10), .inl (g.2.1, 4, .inl (upd (da 10) ur_1 0))), ((dd 11), .inl (g.2.1, 4, .inl (da 11))), ((dd 12), .inl (g.2.1, 4, .inl (da 12))), ((dd 13), .inl (g.2.1, 4, .inl (da 13)))] rfl (nI_clamp (by omega)) (vp_in_nI (by omega) (by omega)) rfl dX7_begin_85 ?_
    refine g_aload_n B 0 1 dX7_begin_86 rfl rfl ?_
    refine g_get (C := RX7) (T := TX7) (N := 35) B 6 0 10 (.ref (dd 11)) in_X7 rfl q930 rfl (Nat.le_of_ble_eq_true rfl) (fun _ h9 => h9) rfl dX7_begin_87 ?_
    refine g_iload B 0 dX7_begin_90 rfl ?_
    refine g_iconst (v := 0) B dX7_begin_92 kc_0 ?_
    refine g_iast B 9 ur_1 [((dd 0), cD dd (upd di 1 ((di 1) + x_4)) sm), ((dd 3), .inl (g.2.1, 4, .inl (upd (da 3) ur_1 1))), ((dd 4), .inl (g.2.1, 4, .inl (da 4))), ((dd 5), .inl (g.2.1, 4, .inl (upd (da 5) ur_1 its))), ((dd 6), .inl (g.2.1, 4, .inl (upd (da 6) ur_1 pi))), ((dd 7), .inl (g.2.1, 4, .inl (upd (da 7) ur_1 fo))), ((dd 8), .inl (g.2.1, 4, .inl (upd (da 8) ur_1 0))), ((dd 9), .inl (g.2.1, 4, .inl (upd (da 9) ur_1 0))), ((dd 10), .inl (g.2.1, 4, .inl (upd (da 10) ur_1 0))), ((dd 11), .inl (g.2.1, 4, .inl (upd (da 11) ur_1 0))), ((dd 12), .inl (g.2.1, 4, .inl (da 12))), ((dd 13), .inl (g.2.1, 4, .inl (da 13)))] rfl (nI_clamp (by omega)) (vp_in_nI (by omega) (by omega)) rfl dX7_begin_93 ?_
    refine g_aload_n B 0 1 dX7_begin_94 rfl rfl ?_
    refine g_get (C := RX7) (T := TX7) (N := 35) B 6 0 11 (.ref (dd 12)) in_X7 rfl q932 rfl (Nat.le_of_ble_eq_true rfl) (fun _ h9 => h9) rfl dX7_begin_95 ?_
    refine g_iload B 0 dX7_begin_98 rfl ?_
    refine g_iload B 5 dX7_begin_100 rfl ?_
    refine g_iast B 10 ur_1 [((dd 0), cD dd (upd di 1 ((di 1) + x_4)) sm), ((dd 3), .inl (g.2.1, 4, .inl (upd (da 3) ur_1 1))), ((dd 4), .inl (g.2.1, 4, .inl (da 4))), ((dd 5), .inl (g.2.1, 4, .inl (upd (da 5) ur_1 its))), ((dd 6), .inl (g.2.1, 4, .inl (upd (da 6) ur_1 pi))), ((dd 7), .inl (g.2.1, 4, .inl (upd (da 7) ur_1 fo))), ((dd 8), .inl (g.2.1, 4, .inl (upd (da 8) ur_1 0))), ((dd 9), .inl (g.2.1, 4, .inl (upd (da 9) ur_1 0))), ((dd 10), .inl (g.2.1, 4, .inl (upd (da 10) ur_1 0))), ((dd 11), .inl (g.2.1, 4, .inl (upd (da 11) ur_1 0))), ((dd 12), .inl (g.2.1, 4, .inl (upd (da 12) ur_1 ga))), ((dd 13), .inl (g.2.1, 4, .inl (da 13)))] rfl (nI_clamp (by omega)) (vp_in_nI (by omega) (by omega)) rfl dX7_begin_102 ?_
    refine g_aload_n B 0 1 dX7_begin_103 rfl rfl ?_
    refine g_get (C := RX7) (T := TX7) (N := 35) B 6 0 12 (.ref (dd 13)) in_X7 rfl q934 rfl (Nat.le_of_ble_eq_true rfl) (fun _ h9 => h9) rfl dX7_begin_104 ?_
    refine g_iload B 0 dX7_begin_107 rfl ?_
    refine g_aload_n B 0 1 dX7_begin_109 rfl rfl ?_
    refine g_dup B dX7_begin_110 rfl ?_
    refine g_get (C := RX7) (T := TX7) (N := 35) B 6 0 13 (.int (di 0)) in_X7 rfl q935 rfl (Nat.le_of_ble_eq_true rfl) (fun _ h9 => h9) rfl dX7_begin_111 ?_
    refine g_dup_x1 B dX7_begin_114 rfl rfl ?_
    refine g_iconst (v := 1) B dX7_begin_115 kc_1 ?_
    refine g_iadd B dX7_begin_116 ?_
    refine g_put (C := RX7) (T := TX7) (N := 35) (ty := .int) (v := .int ((di 0) + 1)) B 6 0 13 [((dd 0), cD dd (upd (upd di 1 ((di 1) + x_4)) 0 ((di 0) + 1)) sm), ((dd 3), .inl (g.2.1, 4, .inl (upd (da 3) ur_1 1))), ((dd 4), .inl (g.2.1, 4, .inl (da 4))), ((dd 5), .inl (g.2.1, 4, .inl (upd (da 5) ur_1 its))), ((dd 6), .inl (g.2.1, 4, .inl (upd (da 6) ur_1 pi))), ((dd 7), .inl (g.2.1, 4, .inl (upd (da 7) ur_1 fo))), ((dd 8), .inl (g.2.1, 4, .inl (upd (da 8) ur_1 0))), ((dd 9), .inl (g.2.1, 4, .inl (upd (da 9) ur_1 0))), ((dd 10), .inl (g.2.1, 4, .inl (upd (da 10) ur_1 0))), ((dd 11), .inl (g.2.1, 4, .inl (upd (da 11) ur_1 0))), ((dd 12), .inl (g.2.1, 4, .inl (upd (da 12) ur_1 ga))), ((dd 13), .inl (g.2.1, 4, .inl (da 13)))] in_X7 tyX7 tyX7_ok nmX7 rfl q935 rfl (Nat.le_of_ble_eq_true rfl) (fun _ h9 => h9) rfl rfl rfl rfl (Nat.le_of_ble_eq_true rfl) rfl dX7_begin_117 ?_
    refine g_iast B 11 ur_1 [((dd 0), cD dd (upd (upd di 1 ((di 1) + x_4)) 0 ((di 0) + 1)) sm), ((dd 3), .inl (g.2.1, 4, .inl (upd (da 3) ur_1 1))), ((dd 4), .inl (g.2.1, 4, .inl (da 4))), ((dd 5), .inl (g.2.1, 4, .inl (upd (da 5) ur_1 its))), ((dd 6), .inl (g.2.1, 4, .inl (upd (da 6) ur_1 pi))), ((dd 7), .inl (g.2.1, 4, .inl (upd (da 7) ur_1 fo))), ((dd 8), .inl (g.2.1, 4, .inl (upd (da 8) ur_1 0))), ((dd 9), .inl (g.2.1, 4, .inl (upd (da 9) ur_1 0))), ((dd 10), .inl (g.2.1, 4, .inl (upd (da 10) ur_1 0))), ((dd 11), .inl (g.2.1, 4, .inl (upd (da 11) ur_1 0))), ((dd 12), .inl (g.2.1, 4, .inl (upd (da 12) ur_1 ga))), ((dd 13), .inl (g.2.1, 4, .inl (upd (da 13) ur_1 (di 0))))] rfl (nI_clamp (by omega)) (vp_in_nI (by omega) (by omega)) rfl dX7_begin_120 ?_
    refine g_iload B 0 dX7_begin_121 rfl ?_
    subst hur_1
    subst ex_4
    exact g_iret B hr dX7_begin_123 (Nat.le_of_ble_eq_true rfl) (Nat.le_of_ble_eq_true rfl) () rfl [0, 1, 2, 3, 4, 5, 6, 7, 8, 9, 10, 11] rfl rfl
  refine g_if_ne (tgt := 25) B dX7_begin_18 (by decide) (fun c_2 => ?_) (fun c_2 => ?_)
  · skip
    refine g_iconst (v := 1) B dX7_begin_25 kc_1 ?_
    exact j_3 _ (by first | rfl | (simp only [mk_c, if_neg c_2]; done) | (simp only [mk_c, if_neg c_2]; rfl))
  · skip
    refine g_iconst (v := 0) B dX7_begin_21 kc_0 ?_
    refine g_goto (tgt := 26) B dX7_begin_22 (by decide) ?_
    exact j_3 _ (by first | rfl | (simp only [mk_c, if_pos c_2]; done) | (simp only [mk_c, if_pos c_2]; rfl))
