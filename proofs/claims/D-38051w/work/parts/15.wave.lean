/-! contracts: waves, ranks -/
set_option maxRecDepth 100000
theorem kb_6 : (Int8.ofInt 6).toInt32 = 6 := by decide
theorem kb_7 : (Int8.ofInt 7).toInt32 = 7 := by decide
theorem kb_8 : (Int8.ofInt 8).toInt32 = 8 := by decide
theorem kb_9 : (Int8.ofInt 9).toInt32 = 9 := by decide
theorem kb_10 : (Int8.ofInt 10).toInt32 = 10 := by decide
theorem kb_11 : (Int8.ofInt 11).toInt32 = 11 := by decide
theorem kb_12 : (Int8.ofInt 12).toInt32 = 12 := by decide
theorem kb_16 : (Int8.ofInt 16).toInt32 = 16 := by decide
theorem kb_32 : (Int8.ofInt 32).toInt32 = 32 := by decide
theorem kb_64 : (Int8.ofInt 64).toInt32 = 64 := by decide
theorem kb_125 : (Int8.ofInt 125).toInt32 = 125 := by decide
theorem kc_5 : Int32.ofInt 5 = 5 := by decide
theorem it_0 : (0 : Int32).toInt = 0 := by decide
theorem ks_m1000 : (Int16.ofInt (-1000)).toInt32 = (-1000) := by decide
theorem ks_m992 : (Int16.ofInt (-992)).toInt32 = (-992) := by decide
theorem ks_271 : (Int16.ofInt 271).toInt32 = 271 := by decide
theorem ks_287 : (Int16.ofInt 287).toInt32 = 287 := by decide
theorem ks_304 : (Int16.ofInt 304).toInt32 = 304 := by decide
theorem ks_323 : (Int16.ofInt 323).toInt32 = 323 := by decide
theorem ks_342 : (Int16.ofInt 342).toInt32 = 342 := by decide
theorem ks_362 : (Int16.ofInt 362).toInt32 = 362 := by decide
theorem ks_384 : (Int16.ofInt 384).toInt32 = 384 := by decide
theorem ks_406 : (Int16.ofInt 406).toInt32 = 406 := by decide
theorem ks_431 : (Int16.ofInt 431).toInt32 = 431 := by decide
theorem ks_456 : (Int16.ofInt 456).toInt32 = 456 := by decide
theorem ks_483 : (Int16.ofInt 483).toInt32 = 483 := by decide
theorem ks_2048 : (Int16.ofInt 2048).toInt32 = 2048 := by decide
theorem nsX2_isAhead : yX2_isAhead.cls ≠ "java/lang/invoke/MethodHandle" ∧ yX2_isAhead.cls ≠ "java/lang/invoke/VarHandle" ∧ (parseMethodDescriptor yX2_isAhead.desc).map (fun d => d.parameters.length) = some 2 := by decide +kernel
theorem nsX2_rank : yX2_rank.cls ≠ "java/lang/invoke/MethodHandle" ∧ yX2_rank.cls ≠ "java/lang/invoke/VarHandle" ∧ (parseMethodDescriptor yX2_rank.desc).map (fun d => d.parameters.length) = some 1 := by decide +kernel
theorem nvJ2_get : yJ2_get.cls = RJ2 ∧ yJ2_get.cls ≠ "java/lang/invoke/MethodHandle" ∧ yJ2_get.cls ≠ "java/lang/invoke/VarHandle" ∧ (parseMethodDescriptor yJ2_get.desc).map (fun d => d.parameters.length) = some 1 := by decide +kernel
theorem nvX1_valueOf : yX1_valueOf.cls = RX1 ∧ yX1_valueOf.cls ≠ "java/lang/invoke/MethodHandle" ∧ yX1_valueOf.cls ≠ "java/lang/invoke/VarHandle" ∧ (parseMethodDescriptor yX1_valueOf.desc).map (fun d => d.parameters.length) = some 2 := by decide +kernel
theorem nvX5_isFree : yX5_isFree.cls = RX5 ∧ yX5_isFree.cls ≠ "java/lang/invoke/MethodHandle" ∧ yX5_isFree.cls ≠ "java/lang/invoke/VarHandle" ∧ (parseMethodDescriptor yX5_isFree.desc).map (fun d => d.parameters.length) = some 0 := by decide +kernel
set_option maxHeartbeats 4000000 in
set_option maxRecDepth 100000 in
theorem m_X1_valueOf (l : Launch) (hst : l.stackTraces = false) (g : gG) (ad : Nat → Nat) (e0 : Nat) (mi : Nat → Int32) (lo su : Int64) (dr : Nat → Int32) (wa k : Int32) (hk : vp_in k 32) : gMi l yX1_valueOf cX1_valueOf 3 .int 0 0 0 0 g [((ad 0), cM ad e0 mi lo su), ((ad 1), .inl (g.2.1, 32, .inl dr))] [.ref (ad 0), .int wa, .int k] (fun (r : Int32) (_ : Unit) => r = pval dr wa k) (fun _ : Unit => [((ad 0), cM ad e0 mi lo su), ((ad 1), .inl (g.2.1, 32, .inl dr))]) := by
  intro sz
  refine g_ent (by decide) hst [(0, .ref (ad 0)), (1, .int wa), (2, .int k)] (Nat.le_of_ble_eq_true rfl) rfl ?_
  intro p e s m below meth c B hr hnm hsz
  have B : gB p l s m ([.ref (ad 0), .int wa, .int k] : List Value).toArray meth c RX1 cX1_valueOf 3 g (va_A [((ad 0), cM ad e0 mi lo su), ((ad 1), .inl (g.2.1, 32, .inl dr))] sz) := B
  refine g_iload_n B 1 1 dX1_valueOf_0 rfl rfl ?_
  by_cases c_1 : wa = 0
  · skip
    refine g_tabIn (off := 27) (tgt := 28) B dX1_valueOf_1 (by rw [c_1]; decide) (by rw [c_1]; decide) (by rw [c_1]; decide) (by decide) ?_
    refine g_sipush (v := (-992)) B dX1_valueOf_28 ks_m992 ?_
    refine g_bipush (v := 64) B dX1_valueOf_31 kb_64 ?_
    refine g_iload_n B 2 2 dX1_valueOf_33 rfl rfl ?_
    refine g_imul B dX1_valueOf_34 ?_
    refine g_iadd B dX1_valueOf_35 ?_
    refine g_topi (fun x_2 ex_2 => ?_)
    subst ex_2
    exact g_iret B hr dX1_valueOf_36 (Nat.le_of_ble_eq_true rfl) (Nat.le_of_ble_eq_true rfl) () (by first | (simp only [pval, if_pos c_1]; done) | (simp only [pval, if_pos c_1]; rfl) | rfl) [0, 1] rfl rfl
  by_cases c_3 : wa = 1
  · skip
    refine g_tabIn (off := 36) (tgt := 37) B dX1_valueOf_1 (by rw [c_3]; decide) (by rw [c_3]; decide) (by rw [c_3]; decide) (by decide) ?_
    refine g_iload_n B 2 2 dX1_valueOf_37 rfl rfl ?_
    refine g_bipush (v := 16) B dX1_valueOf_38 kb_16 ?_
    refine g_icmp_ge (tgt := 49) B dX1_valueOf_40 (by decide) (fun c_4 => ?_) (fun c_4 => ?_)
    · skip
      refine g_sipush (v := (-1000)) B dX1_valueOf_49 ks_m1000 ?_
      exact g_iret B hr dX1_valueOf_52 (Nat.le_of_ble_eq_true rfl) (Nat.le_of_ble_eq_true rfl) () (by first | (simp only [pval, if_neg c_1, if_pos c_3, if_pos c_4]; done) | (simp only [pval, if_neg c_1, if_pos c_3, if_pos c_4]; rfl) | rfl) [0, 1] rfl rfl
    · skip
      refine g_sipush (v := 1000) B dX1_valueOf_43 ks_1000 ?_
      refine g_goto (tgt := 52) B dX1_valueOf_46 (by decide) ?_
      exact g_iret B hr dX1_valueOf_52 (Nat.le_of_ble_eq_true rfl) (Nat.le_of_ble_eq_true rfl) () (by first | (simp only [pval, if_neg c_1, if_pos c_3, if_neg c_4]; done) | (simp only [pval, if_neg c_1, if_pos c_3, if_neg c_4]; rfl) | rfl) [0, 1] rfl rfl
  by_cases c_5 : wa = 2
  · skip
    refine g_tabIn (off := 52) (tgt := 53) B dX1_valueOf_1 (by rw [c_5]; decide) (by rw [c_5]; decide) (by rw [c_5]; decide) (by decide) ?_
    refine g_iload_n B 2 2 dX1_valueOf_53 rfl rfl ?_
    refine g_bipush (v := 16) B dX1_valueOf_54 kb_16 ?_
    refine g_icmp_ge (tgt := 70) B dX1_valueOf_56 (by decide) (fun c_6 => ?_) (fun c_6 => ?_)
    · skip
      refine g_sipush (v := 1000) B dX1_valueOf_70 ks_1000 ?_
      refine g_bipush (v := 125) B dX1_valueOf_73 kb_125 ?_
      refine g_iload_n B 2 2 dX1_valueOf_75 rfl rfl ?_
      refine g_bipush (v := 16) B dX1_valueOf_76 kb_16 ?_
      refine g_isub B dX1_valueOf_78 ?_
      refine g_imul B dX1_valueOf_79 ?_
      refine g_isub B dX1_valueOf_80 ?_
      refine g_topi (fun x_7 ex_7 => ?_)
      subst ex_7
      exact g_iret B hr dX1_valueOf_81 (Nat.le_of_ble_eq_true rfl) (Nat.le_of_ble_eq_true rfl) () (by first | (simp only [pval, if_neg c_1, if_neg c_3, if_pos c_5, if_pos c_6]; done) | (simp only [pval, if_neg c_1, if_neg c_3, if_pos c_5, if_pos c_6]; rfl) | rfl) [0, 1] rfl rfl
    · skip
      refine g_sipush (v := (-1000)) B dX1_valueOf_59 ks_m1000 ?_
      refine g_bipush (v := 125) B dX1_valueOf_62 kb_125 ?_
      refine g_iload_n B 2 2 dX1_valueOf_64 rfl rfl ?_
      refine g_imul B dX1_valueOf_65 ?_
      refine g_iadd B dX1_valueOf_66 ?_
      refine g_goto (tgt := 81) B dX1_valueOf_67 (by decide) ?_
      refine g_topi (fun x_8 ex_8 => ?_)
      subst ex_8
      exact g_iret B hr dX1_valueOf_81 (Nat.le_of_ble_eq_true rfl) (Nat.le_of_ble_eq_true rfl) () (by first | (simp only [pval, if_neg c_1, if_neg c_3, if_pos c_5, if_neg c_6]; done) | (simp only [pval, if_neg c_1, if_neg c_3, if_pos c_5, if_neg c_6]; rfl) | rfl) [0, 1] rfl rfl
  refine g_tabOut (tgt := 82) B dX1_valueOf_1 (by have nc_1 := ine c_1; have nc_3 := ine c_3; have nc_5 := ine c_5; simp only [it_0, it_1, it_2] at nc_1 nc_3 nc_5; omega) (by decide) ?_
  refine g_aload_n B 0 0 dX1_valueOf_82 rfl rfl ?_
  refine g_get (C := RX1) (T := TX1) (N := 17) B 0 0 0 (.ref (ad 1)) in_X1 rfl q342 rfl (Nat.le_of_ble_eq_true rfl) (fun _ h9 => h9) rfl dX1_valueOf_83 ?_
  refine g_iload_n B 2 2 dX1_valueOf_86 rfl rfl ?_
  refine g_iald B 1 k.toNatClampNeg rfl rfl hk dX1_valueOf_87 ?_
  refine g_topi (fun x_9 ex_9 => ?_)
  subst ex_9
  exact g_iret B hr dX1_valueOf_88 (Nat.le_of_ble_eq_true rfl) (Nat.le_of_ble_eq_true rfl) () (by first | (simp only [pval, if_neg c_1, if_neg c_3, if_neg c_5]; done) | (simp only [pval, if_neg c_1, if_neg c_3, if_neg c_5]; rfl) | rfl) [0, 1] rfl rfl

set_option maxHeartbeats 4000000 in
set_option maxRecDepth 100000 in
theorem m_X1_waveAt (l : Launch) (hst : l.stackTraces = false) (g : gG) (ad : Nat → Nat) (e0 : Nat) (mi : Nat → Int32) (lo su : Int64) (dr : Nat → Int32) (wa ph : Int32) (hp : vp_in ph 65536) : gMi l yX1_waveAt cX1_waveAt 5 .int 1 22 0 0 g [((ad 0), cM ad e0 mi lo su), ((ad 1), .inl (g.2.1, 32, .inl dr))] [.ref (ad 0), .int wa, .int ph] (fun (r : Int32) (_ : Unit) => r = pwav dr wa ph) (fun _ : Unit => [((ad 0), cM ad e0 mi lo su), ((ad 1), .inl (g.2.1, 32, .inl dr))]) := by
  intro sz
  refine g_ent (by decide) hst [(0, .ref (ad 0)), (1, .int wa), (2, .int ph)] (Nat.le_of_ble_eq_true rfl) rfl ?_
  intro p e s m below meth c B hr hnm hsz
  have B : gB p l s m ([.ref (ad 0), .int wa, .int ph] : List Value).toArray meth c RX1 cX1_waveAt 5 g (va_A [((ad 0), cM ad e0 mi lo su), ((ad 1), .inl (g.2.1, 32, .inl dr))] sz) := B
  refine g_aload_n B 0 0 dX1_waveAt_0 rfl rfl ?_
  refine g_iload_n B 1 1 dX1_waveAt_1 rfl rfl ?_
  refine g_iload_n B 2 2 dX1_waveAt_2 rfl rfl ?_
  refine g_sipush (v := 2048) B dX1_waveAt_3 ks_2048 ?_
  refine g_idiv B dX1_waveAt_6 (by decide) ?_
  refine g_cuV_i (C := RX1) (T := TX1) (N := 17) (As := [.int wa, .int (ph / 2048)]) B (m_X1_valueOf l hst g ad e0 mi lo su dr wa (ph / 2048) (pw_1 hp)) 0 0 rfl rfl [0, 1] [] (lw_V q498 q500 qs8 q26 q501) nvX1_valueOf rfl rfl rfl rfl (Nat.le_of_ble_eq_true rfl) dX1_waveAt_7 ⟨Nat.le_of_ble_eq_true rfl, Nat.le_of_ble_eq_true rfl⟩ ⟨Nat.le_of_ble_eq_true rfl, Nat.le_of_ble_eq_true rfl⟩ (fun r_1 ur_1 hr_1 => ?_)
  have hr_1 : r_1 = (pval dr wa (ph / 2048)) := hr_1
  refine g_istore_n B 3 [(3, .int r_1), (0, .ref (ad 0)), (1, .int wa), (2, .int ph)] dX1_waveAt_10 rfl (Nat.le_of_ble_eq_true rfl) rfl ?_
  refine g_aload_n B 0 1 dX1_waveAt_11 rfl rfl ?_
  refine g_iload_n B 1 2 dX1_waveAt_12 rfl rfl ?_
  refine g_iload_n B 2 3 dX1_waveAt_13 rfl rfl ?_
  refine g_sipush (v := 2048) B dX1_waveAt_14 ks_2048 ?_
  refine g_idiv B dX1_waveAt_17 (by decide) ?_
  refine g_iconst (v := 1) B dX1_waveAt_18 kc_1 ?_
  refine g_iadd B dX1_waveAt_19 ?_
  refine g_bipush (v := 32) B dX1_waveAt_20 kb_32 ?_
  refine g_irem B dX1_waveAt_22 (by decide) ?_
  refine g_cuV_i (C := RX1) (T := TX1) (N := 17) (As := [.int wa, .int (prm ((ph / 2048) + 1) 32)]) B (m_X1_valueOf l hst g ad e0 mi lo su dr wa (prm ((ph / 2048) + 1) 32) (pw_2 hp)) 0 0 rfl rfl [0, 1] [] (lw_V q498 q500 qs8 q26 q501) nvX1_valueOf rfl rfl rfl rfl (Nat.le_of_ble_eq_true rfl) dX1_waveAt_23 ⟨Nat.le_of_ble_eq_true rfl, Nat.le_of_ble_eq_true rfl⟩ ⟨Nat.le_of_ble_eq_true rfl, Nat.le_of_ble_eq_true rfl⟩ (fun r_2 ur_2 hr_2 => ?_)
  have hr_2 : r_2 = (pval dr wa (prm ((ph / 2048) + 1) 32)) := hr_2
  refine g_istore B [(4, .int r_2), (3, .int r_1), (0, .ref (ad 0)), (1, .int wa), (2, .int ph)] dX1_waveAt_26 (Nat.le_of_ble_eq_true rfl) rfl ?_
  refine g_iload_n B 3 1 dX1_waveAt_28 rfl rfl ?_
  refine g_iload B 0 dX1_waveAt_29 rfl ?_
  refine g_iload_n B 3 1 dX1_waveAt_31 rfl rfl ?_
  refine g_isub B dX1_waveAt_32 ?_
  refine g_iload_n B 2 4 dX1_waveAt_33 rfl rfl ?_
  refine g_sipush (v := 2048) B dX1_waveAt_34 ks_2048 ?_
  refine g_irem B dX1_waveAt_37 (by decide) ?_
  refine g_imul B dX1_waveAt_38 ?_
  refine g_sipush (v := 2048) B dX1_waveAt_39 ks_2048 ?_
  refine g_idiv B dX1_waveAt_42 (by decide) ?_
  refine g_iadd B dX1_waveAt_43 ?_
  refine g_topi (fun x_3 ex_3 => ?_)
  subst hr_1
  subst hr_2
  subst ex_3
  exact g_iret B hr dX1_waveAt_44 (Nat.le_of_ble_eq_true rfl) (Nat.le_of_ble_eq_true rfl) () rfl [0, 1] rfl rfl

set_option maxHeartbeats 4000000 in
set_option maxRecDepth 100000 in
theorem m_X1_strideOf (l : Launch) (hst : l.stackTraces = false) (g : gG) (pi : Int32) (hp : vp_in pi 48) : gMi l yX1_strideOf cX1_strideOf 2 .int 0 0 1 12 g [] [.int pi] (fun (r : Int32) (_ : Unit) => r = pstr pi) (fun _ : Unit => []) := by
  intro sz
  refine g_ent (by decide) hst [(0, .int pi)] (Nat.le_of_ble_eq_true rfl) rfl ?_
  intro p e s m below meth c B hr hnm hsz
  have B : gB p l s m ([.int pi] : List Value).toArray meth c RX1 cX1_strideOf 2 g (va_A [] sz) := B
  refine g_bipush (v := 12) B dX1_strideOf_0 kb_12 ?_
  refine g_newa B 12 q83 (by decide) (by decide) (Nat.le_of_ble_eq_true rfl) (Nat.le_of_ble_eq_true rfl) (Nat.le_of_ble_eq_true rfl) dX1_strideOf_2 (fun a_1 => ?_)
  refine g_dup B dX1_strideOf_4 rfl ?_
  refine g_iconst (v := 0) B dX1_strideOf_5 kc_0 ?_
  refine g_sipush (v := 256) B dX1_strideOf_6 ks_256 ?_
  refine g_iast B 0 0 [(a_1, .inl (g.2.1, 12, .inl (upd (fun _ => 0) 0 256)))] rfl (by decide) (vpc rfl) rfl dX1_strideOf_9 ?_
  refine g_dup B dX1_strideOf_10 rfl ?_
  refine g_iconst (v := 1) B dX1_strideOf_11 kc_1 ?_
  refine g_sipush (v := 271) B dX1_strideOf_12 ks_271 ?_
  refine g_iast B 0 1 [(a_1, .inl (g.2.1, 12, .inl (upd (upd (fun _ => 0) 0 256) 1 271)))] rfl (by decide) (vpc rfl) rfl dX1_strideOf_15 ?_
  refine g_dup B dX1_strideOf_16 rfl ?_
  refine g_iconst (v := 2) B dX1_strideOf_17 kc_2 ?_
  refine g_sipush (v := 287) B dX1_strideOf_18 ks_287 ?_
  refine g_iast B 0 2 [(a_1, .inl (g.2.1, 12, .inl (upd (upd (upd (fun _ => 0) 0 256) 1 271) 2 287)))] rfl (by decide) (vpc rfl) rfl dX1_strideOf_21 ?_
  refine g_dup B dX1_strideOf_22 rfl ?_
  refine g_iconst (v := 3) B dX1_strideOf_23 kc_3 ?_
  refine g_sipush (v := 304) B dX1_strideOf_24 ks_304 ?_
  refine g_iast B 0 3 [(a_1, .inl (g.2.1, 12, .inl (upd (upd (upd (upd (fun _ => 0) 0 256) 1 271) 2 287) 3 304)))] rfl (by decide) (vpc rfl) rfl dX1_strideOf_27 ?_
  refine g_dup B dX1_strideOf_28 rfl ?_
  refine g_iconst (v := 4) B dX1_strideOf_29 kc_4 ?_
  refine g_sipush (v := 323) B dX1_strideOf_30 ks_323 ?_
  refine g_iast B 0 4 [(a_1, .inl (g.2.1, 12, .inl (upd (upd (upd (upd (upd (fun _ => 0) 0 256) 1 271) 2 287) 3 304) 4 323)))] rfl (by decide) (vpc rfl) rfl dX1_strideOf_33 ?_
  refine g_dup B dX1_strideOf_34 rfl ?_
  refine g_iconst (v := 5) B dX1_strideOf_35 kc_5 ?_
  refine g_sipush (v := 342) B dX1_strideOf_36 ks_342 ?_
  refine g_iast B 0 5 [(a_1, .inl (g.2.1, 12, .inl (upd (upd (upd (upd (upd (upd (fun _ => 0) 0 256) 1 271) 2 287) 3 304) 4 323) 5 342)))] rfl (by decide) (vpc rfl) rfl dX1_strideOf_39 ?_
  refine g_dup B dX1_strideOf_40 rfl ?_
  refine g_bipush (v := 6) B dX1_strideOf_41 kb_6 ?_
  refine g_sipush (v := 362) B dX1_strideOf_43 ks_362 ?_
  refine g_iast B 0 6 [(a_1, .inl (g.2.1, 12, .inl (upd (upd (upd (upd (upd (upd (upd (fun _ => 0) 0 256) 1 271) 2 287) 3 304) 4 323) 5 342) 6 362)))] rfl (by decide) (vpc rfl) rfl dX1_strideOf_46 ?_
  refine g_dup B dX1_strideOf_47 rfl ?_
  refine g_bipush (v := 7) B dX1_strideOf_48 kb_7 ?_
  refine g_sipush (v := 384) B dX1_strideOf_50 ks_384 ?_
  refine g_iast B 0 7 [(a_1, .inl (g.2.1, 12, .inl (upd (upd (upd (upd (upd (upd (upd (upd (fun _ => 0) 0 256) 1 271) 2 287) 3 304) 4 323) 5 342) 6 362) 7 384)))] rfl (by decide) (vpc rfl) rfl dX1_strideOf_53 ?_
  refine g_dup B dX1_strideOf_54 rfl ?_
  refine g_bipush (v := 8) B dX1_strideOf_55 kb_8 ?_
  refine g_sipush (v := 406) B dX1_strideOf_57 ks_406 ?_
  refine g_iast B 0 8 [(a_1, .inl (g.2.1, 12, .inl (upd (upd (upd (upd (upd (upd (upd (upd (upd (fun _ => 0) 0 256) 1 271) 2 287) 3 304) 4 323) 5 342) 6 362) 7 384) 8 406)))] rfl (by decide) (vpc rfl) rfl dX1_strideOf_60 ?_
  refine g_dup B dX1_strideOf_61 rfl ?_
  refine g_bipush (v := 9) B dX1_strideOf_62 kb_9 ?_
  refine g_sipush (v := 431) B dX1_strideOf_64 ks_431 ?_
  refine g_iast B 0 9 [(a_1, .inl (g.2.1, 12, .inl (upd (upd (upd (upd (upd (upd (upd (upd (upd (upd (fun _ => 0) 0 256) 1 271) 2 287) 3 304) 4 323) 5 342) 6 362) 7 384) 8 406) 9 431)))] rfl (by decide) (vpc rfl) rfl dX1_strideOf_67 ?_
  refine g_dup B dX1_strideOf_68 rfl ?_
  refine g_bipush (v := 10) B dX1_strideOf_69 kb_10 ?_
  refine g_sipush (v := 456) B dX1_strideOf_71 ks_456 ?_
  refine g_iast B 0 10 [(a_1, .inl (g.2.1, 12, .inl (upd (upd (upd (upd (upd (upd (upd (upd (upd (upd (upd (fun _ => 0) 0 256) 1 271) 2 287) 3 304) 4 323) 5 342) 6 362) 7 384) 8 406) 9 431) 10 456)))] rfl (by decide) (vpc rfl) rfl dX1_strideOf_74 ?_
  refine g_dup B dX1_strideOf_75 rfl ?_
  refine g_bipush (v := 11) B dX1_strideOf_76 kb_11 ?_
  refine g_sipush (v := 483) B dX1_strideOf_78 ks_483 ?_
  refine g_iast B 0 11 [(a_1, .inl (g.2.1, 12, .inl (upd (upd (upd (upd (upd (upd (upd (upd (upd (upd (upd (upd (fun _ => 0) 0 256) 1 271) 2 287) 3 304) 4 323) 5 342) 6 362) 7 384) 8 406) 9 431) 10 456) 11 483)))] rfl (by decide) (vpc rfl) rfl dX1_strideOf_81 ?_
  refine g_astore_n B 1 [(1, .ref a_1), (0, .int pi)] dX1_strideOf_82 rfl (Nat.le_of_ble_eq_true rfl) rfl ?_
  refine g_aload_n B 1 0 dX1_strideOf_83 rfl rfl ?_
  refine g_iload_n B 0 1 dX1_strideOf_84 rfl rfl ?_
  refine g_bipush (v := 12) B dX1_strideOf_85 kb_12 ?_
  refine g_irem B dX1_strideOf_87 (by decide) ?_
  refine g_iald B 0 ((prm pi 12).toNatClampNeg) rfl rfl (ps_1 hp) dX1_strideOf_88 ?_
  refine g_iload_n B 0 1 dX1_strideOf_89 rfl rfl ?_
  refine g_bipush (v := 12) B dX1_strideOf_90 kb_12 ?_
  refine g_idiv B dX1_strideOf_92 (by decide) ?_
  refine g_ishl B dX1_strideOf_93 ?_
  refine g_topi (fun x_2 ex_2 => ?_)
  subst ex_2
  exact g_iret B hr dX1_strideOf_94 (Nat.le_of_ble_eq_true rfl) (Nat.le_of_ble_eq_true rfl) () rfl [] rfl rfl

set_option maxHeartbeats 4000000 in
set_option maxRecDepth 100000 in
theorem m_X2_rank (l : Launch) (hst : l.stackTraces = false) (g : gG) (h0 : Nat) (f : Nat → Int32) : gMi l yX2_rank cX2_rank 1 .int 1 20 0 0 g [(h0, cV f)] [.ref h0] (fun (r : Int32) (_ : Unit) => r = v_rank f) (fun _ : Unit => [(h0, cV f)]) := by
  intro sz
  refine g_ent (by decide) hst [(0, .ref h0)] (Nat.le_of_ble_eq_true rfl) rfl ?_
  intro p e s m below meth c B hr hnm hsz
  have B : gB p l s m ([.ref h0] : List Value).toArray meth c RX2 cX2_rank 1 g (va_A [(h0, cV f)] sz) := B
  refine g_aload_n B 0 0 dX2_rank_0 rfl rfl ?_
  refine g_cuV_i (C := RX5) (T := TX5) (N := 11) (As := []) B (m_X5_isFree l hst g h0 f) 4 0 rfl rfl [0] [] (lw_V q425 q426 q427 q37 q428) nvX5_isFree rfl rfl rfl rfl (Nat.le_of_ble_eq_true rfl) dX2_rank_1 ⟨Nat.le_of_ble_eq_true rfl, Nat.le_of_ble_eq_true rfl⟩ ⟨Nat.le_of_ble_eq_true rfl, Nat.le_of_ble_eq_true rfl⟩ (fun r_1 ur_1 hr_1 => ?_)
  have hr_1 : r_1 = (v_free f) := hr_1
  refine g_if_eq (tgt := 11) B dX2_rank_4 (by decide) (fun c_2 => ?_) (fun c_2 => ?_)
  · skip
    have c_2f := vfr0 (hr_1 ▸ c_2)
    refine g_aload_n B 0 0 dX2_rank_11 rfl rfl ?_
    refine g_getN (C := RX5) (T := TX5) (N := 11) B 4 0 0 (.int (f 0)) in_X5 rfl q291 rfl (Nat.le_of_ble_eq_true rfl) (fun _ h9 => h9) rfl dX2_rank_12 ?_
    refine g_iconst (v := 4) B dX2_rank_15 kc_4 ?_
    refine g_icmp_ne (tgt := 23) B dX2_rank_16 (by decide) (fun c_3 => ?_) (fun c_3 => ?_)
    · skip
      refine g_iconst (v := 2) B dX2_rank_23 kc_2 ?_
      subst hr_1
      exact g_iret B hr dX2_rank_24 (Nat.le_of_ble_eq_true rfl) (Nat.le_of_ble_eq_true rfl) () (by first | (simp only [v_rank, if_neg c_2f, if_neg c_3]; done) | (simp only [v_rank, if_neg c_2f, if_neg c_3]; rfl) | rfl) [0] rfl rfl
    · skip
      refine g_iconst (v := 1) B dX2_rank_19 kc_1 ?_
      refine g_goto (tgt := 24) B dX2_rank_20 (by decide) ?_
      subst hr_1
      exact g_iret B hr dX2_rank_24 (Nat.le_of_ble_eq_true rfl) (Nat.le_of_ble_eq_true rfl) () (by first | (simp only [v_rank, if_neg c_2f, if_pos c_3]; done) | (simp only [v_rank, if_neg c_2f, if_pos c_3]; rfl) | rfl) [0] rfl rfl
  · skip
    have c_2f := vfr1 (hr_1 ▸ c_2)
    refine g_iconst (v := 0) B dX2_rank_7 kc_0 ?_
    refine g_goto (tgt := 24) B dX2_rank_8 (by decide) ?_
    subst hr_1
    exact g_iret B hr dX2_rank_24 (Nat.le_of_ble_eq_true rfl) (Nat.le_of_ble_eq_true rfl) () (by first | (simp only [v_rank, if_pos c_2f]; done) | (simp only [v_rank, if_pos c_2f]; rfl) | rfl) [0] rfl rfl

set_option maxHeartbeats 4000000 in
set_option maxRecDepth 100000 in
theorem m_X2_isAhead (l : Launch) (hst : l.stackTraces = false) (g : gG) (h0 h1 : Nat) (f1 f2 : Nat → Int32) : gMi l yX2_isAhead cX2_isAhead 2 .boolean 2 40 0 0 g [(h0, cV f1), (h1, cV f2)] [.ref h0, .ref h1] (fun (r : Int32) (_ : Unit) => r = v_ahead f1 f2) (fun _ : Unit => [(h0, cV f1), (h1, cV f2)]) := by
  intro sz
  refine g_ent (by decide) hst [(0, .ref h0), (1, .ref h1)] (Nat.le_of_ble_eq_true rfl) rfl ?_
  intro p e s m below meth c B hr hnm hsz
  have B : gB p l s m ([.ref h0, .ref h1] : List Value).toArray meth c RX2 cX2_isAhead 2 g (va_A [(h0, cV f1), (h1, cV f2)] sz) := B
  refine g_aload_n B 0 0 dX2_isAhead_0 rfl rfl ?_
  refine g_cuS_i (As := [.ref h0]) B (m_X2_rank l hst g h0 f1) [0] [] (lw_S q474 q475 q30 q476) nsX2_rank rfl rfl rfl rfl (Nat.le_of_ble_eq_true rfl) dX2_isAhead_1 ⟨Nat.le_of_ble_eq_true rfl, Nat.le_of_ble_eq_true rfl⟩ ⟨Nat.le_of_ble_eq_true rfl, Nat.le_of_ble_eq_true rfl⟩ (fun r_1 ur_1 hr_1 => ?_)
  have hr_1 : r_1 = (v_rank f1) := hr_1
  refine g_aload_n B 1 1 dX2_isAhead_4 rfl rfl ?_
  refine g_cuS_i (As := [.ref h1]) B (m_X2_rank l hst g h1 f2) [1] [.int r_1] (lw_S q474 q475 q30 q476) nsX2_rank rfl rfl rfl rfl (Nat.le_of_ble_eq_true rfl) dX2_isAhead_5 ⟨Nat.le_of_ble_eq_true rfl, Nat.le_of_ble_eq_true rfl⟩ ⟨Nat.le_of_ble_eq_true rfl, Nat.le_of_ble_eq_true rfl⟩ (fun r_2 ur_2 hr_2 => ?_)
  have hr_2 : r_2 = (v_rank f2) := hr_2
  refine g_icmp_eq (tgt := 28) B dX2_isAhead_8 (by decide) (fun c_3 => ?_) (fun c_3 => ?_)
  · skip
    refine g_aload_n B 0 0 dX2_isAhead_28 rfl rfl ?_
    refine g_getN (C := RX5) (T := TX5) (N := 11) B 4 0 0 (.int (f1 0)) in_X5 rfl q291 rfl (Nat.le_of_ble_eq_true rfl) (fun _ h9 => h9) rfl dX2_isAhead_29 ?_
    refine g_iconst (v := 4) B dX2_isAhead_32 kc_4 ?_
    refine g_icmp_ne (tgt := 53) B dX2_isAhead_33 (by decide) (fun c_4 => ?_) (fun c_4 => ?_)
    · skip
      refine g_aload_n B 0 0 dX2_isAhead_53 rfl rfl ?_
      refine g_cuV_i (C := RX5) (T := TX5) (N := 11) (As := []) B (m_X5_isFree l hst g h0 f1) 4 0 rfl rfl [0] [] (lw_V q425 q426 q427 q37 q428) nvX5_isFree rfl rfl rfl rfl (Nat.le_of_ble_eq_true rfl) dX2_isAhead_54 ⟨Nat.le_of_ble_eq_true rfl, Nat.le_of_ble_eq_true rfl⟩ ⟨Nat.le_of_ble_eq_true rfl, Nat.le_of_ble_eq_true rfl⟩ (fun r_5 ur_5 hr_5 => ?_)
      have hr_5 : r_5 = (v_free f1) := hr_5
      refine g_if_ne (tgt := 75) B dX2_isAhead_57 (by decide) (fun c_6 => ?_) (fun c_6 => ?_)
      · skip
        have c_6f := vfr1 (hr_5 ▸ c_6)
        refine g_iconst (v := 0) B dX2_isAhead_75 kc_0 ?_
        subst hr_1
        subst hr_2
        subst hr_5
        exact g_zret B hr rfl dX2_isAhead_76 (Nat.le_of_ble_eq_true rfl) (Nat.le_of_ble_eq_true rfl) () (by first | (simp only [v_ahead, if_pos c_3, if_neg c_4, if_pos c_6f]; done) | (simp only [v_ahead, if_pos c_3, if_neg c_4, if_pos c_6f]; rfl) | rfl) [0, 1] rfl rfl
      · skip
        have c_6f := vfr0 (hr_5 ▸ c_6)
        refine g_aload_n B 0 0 dX2_isAhead_60 rfl rfl ?_
        refine g_getN (C := RX5) (T := TX5) (N := 11) B 4 0 5 (.int (f1 5)) in_X5 rfl q305 rfl (Nat.le_of_ble_eq_true rfl) (fun _ h9 => h9) rfl dX2_isAhead_61 ?_
        refine g_aload_n B 1 1 dX2_isAhead_64 rfl rfl ?_
        refine g_getN (C := RX5) (T := TX5) (N := 11) B 4 1 5 (.int (f2 5)) in_X5 rfl q305 rfl (Nat.le_of_ble_eq_true rfl) (fun _ h9 => h9) rfl dX2_isAhead_65 ?_
        refine g_icmp_ge (tgt := 75) B dX2_isAhead_68 (by decide) (fun c_7 => ?_) (fun c_7 => ?_)
        · skip
          refine g_iconst (v := 0) B dX2_isAhead_75 kc_0 ?_
          subst hr_1
          subst hr_2
          subst hr_5
          exact g_zret B hr rfl dX2_isAhead_76 (Nat.le_of_ble_eq_true rfl) (Nat.le_of_ble_eq_true rfl) () (by first | (simp only [v_ahead, if_pos c_3, if_neg c_4, if_neg c_6f, if_pos c_7]; done) | (simp only [v_ahead, if_pos c_3, if_neg c_4, if_neg c_6f, if_pos c_7]; rfl) | rfl) [0, 1] rfl rfl
        · skip
          refine g_iconst (v := 1) B dX2_isAhead_71 kc_1 ?_
          refine g_goto (tgt := 76) B dX2_isAhead_72 (by decide) ?_
          subst hr_1
          subst hr_2
          subst hr_5
          exact g_zret B hr rfl dX2_isAhead_76 (Nat.le_of_ble_eq_true rfl) (Nat.le_of_ble_eq_true rfl) () (by first | (simp only [v_ahead, if_pos c_3, if_neg c_4, if_neg c_6f, if_neg c_7]; done) | (simp only [v_ahead, if_pos c_3, if_neg c_4, if_neg c_6f, if_neg c_7]; rfl) | rfl) [0, 1] rfl rfl
    · skip
      refine g_aload_n B 0 0 dX2_isAhead_36 rfl rfl ?_
      refine g_getN (C := RX5) (T := TX5) (N := 11) B 4 0 1 (.int (f1 1)) in_X5 rfl q294 rfl (Nat.le_of_ble_eq_true rfl) (fun _ h9 => h9) rfl dX2_isAhead_37 ?_
      refine g_aload_n B 1 1 dX2_isAhead_40 rfl rfl ?_
      refine g_getN (C := RX5) (T := TX5) (N := 11) B 4 1 1 (.int (f2 1)) in_X5 rfl q294 rfl (Nat.le_of_ble_eq_true rfl) (fun _ h9 => h9) rfl dX2_isAhead_41 ?_
      refine g_icmp_ge (tgt := 51) B dX2_isAhead_44 (by decide) (fun c_8 => ?_) (fun c_8 => ?_)
      · skip
        refine g_iconst (v := 0) B dX2_isAhead_51 kc_0 ?_
        subst hr_1
        subst hr_2
        exact g_zret B hr rfl dX2_isAhead_52 (Nat.le_of_ble_eq_true rfl) (Nat.le_of_ble_eq_true rfl) () (by first | (simp only [v_ahead, if_pos c_3, if_pos c_4, if_pos c_8]; done) | (simp only [v_ahead, if_pos c_3, if_pos c_4, if_pos c_8]; rfl) | rfl) [0, 1] rfl rfl
      · skip
        refine g_iconst (v := 1) B dX2_isAhead_47 kc_1 ?_
        refine g_goto (tgt := 52) B dX2_isAhead_48 (by decide) ?_
        subst hr_1
        subst hr_2
        exact g_zret B hr rfl dX2_isAhead_52 (Nat.le_of_ble_eq_true rfl) (Nat.le_of_ble_eq_true rfl) () (by first | (simp only [v_ahead, if_pos c_3, if_pos c_4, if_neg c_8]; done) | (simp only [v_ahead, if_pos c_3, if_pos c_4, if_neg c_8]; rfl) | rfl) [0, 1] rfl rfl
  · skip
    refine g_aload_n B 0 0 dX2_isAhead_11 rfl rfl ?_
    refine g_cuS_i (As := [.ref h0]) B (m_X2_rank l hst g h0 f1) [0] [] (lw_S q474 q475 q30 q476) nsX2_rank rfl rfl rfl rfl (Nat.le_of_ble_eq_true rfl) dX2_isAhead_12 ⟨Nat.le_of_ble_eq_true rfl, Nat.le_of_ble_eq_true rfl⟩ ⟨Nat.le_of_ble_eq_true rfl, Nat.le_of_ble_eq_true rfl⟩ (fun r_9 ur_9 hr_9 => ?_)
    have hr_9 : r_9 = (v_rank f1) := hr_9
    refine g_aload_n B 1 1 dX2_isAhead_15 rfl rfl ?_
    refine g_cuS_i (As := [.ref h1]) B (m_X2_rank l hst g h1 f2) [1] [.int r_9] (lw_S q474 q475 q30 q476) nsX2_rank rfl rfl rfl rfl (Nat.le_of_ble_eq_true rfl) dX2_isAhead_16 ⟨Nat.le_of_ble_eq_true rfl, Nat.le_of_ble_eq_true rfl⟩ ⟨Nat.le_of_ble_eq_true rfl, Nat.le_of_ble_eq_true rfl⟩ (fun r_10 ur_10 hr_10 => ?_)
    have hr_10 : r_10 = (v_rank f2) := hr_10
    refine g_icmp_ge (tgt := 26) B dX2_isAhead_19 (by decide) (fun c_11 => ?_) (fun c_11 => ?_)
    · skip
      refine g_iconst (v := 0) B dX2_isAhead_26 kc_0 ?_
      subst hr_1
      subst hr_2
      subst hr_9
      subst hr_10
      exact g_zret B hr rfl dX2_isAhead_27 (Nat.le_of_ble_eq_true rfl) (Nat.le_of_ble_eq_true rfl) () (by first | (simp only [v_ahead, if_neg c_3, if_pos c_11]; done) | (simp only [v_ahead, if_neg c_3, if_pos c_11]; rfl) | rfl) [0, 1] rfl rfl
    · skip
      refine g_iconst (v := 1) B dX2_isAhead_22 kc_1 ?_
      refine g_goto (tgt := 27) B dX2_isAhead_23 (by decide) ?_
      subst hr_1
      subst hr_2
      subst hr_9
      subst hr_10
      exact g_zret B hr rfl dX2_isAhead_27 (Nat.le_of_ble_eq_true rfl) (Nat.le_of_ble_eq_true rfl) () (by first | (simp only [v_ahead, if_neg c_3, if_neg c_11]; done) | (simp only [v_ahead, if_neg c_3, if_neg c_11]; rfl) | rfl) [0, 1] rfl rfl

set_option maxHeartbeats 4000000 in
set_option maxRecDepth 100000 in
theorem m_X2_next (l : Launch) (hst : l.stackTraces = false) (g : gG) (ad ed : Nat → Nat) (en : Nat → Int32) (vf : Nat → Nat → Int32) : gMi l yX2_next cX2_next 3 .int 3 64 0 0 g [((ed 0), cE (ed 1) (ed 7) (ad 0) en), ((ed 1), cA (ed 2) al4), ((ed 2), .inl (g.2.2.1, 10, .inr (.inr (.inr (.inr (vq ed)))))), ((ed 3), cV (vf 0)), ((ed 4), cV (vf 1)), ((ed 5), cV (vf 2)), ((ed 6), cV (vf 3))] [.ref (ed 0)] (fun (r : Int32) (_ : Unit) => r = nI (v_nx vf)) (fun _ : Unit => [((ed 0), cE (ed 1) (ed 7) (ad 0) en), ((ed 1), cA (ed 2) al4), ((ed 2), .inl (g.2.2.1, 10, .inr (.inr (.inr (.inr (vq ed)))))), ((ed 3), cV (vf 0)), ((ed 4), cV (vf 1)), ((ed 5), cV (vf 2)), ((ed 6), cV (vf 3))]) := by
  intro sz
  refine g_ent (by decide) hst [(0, .ref (ed 0))] (Nat.le_of_ble_eq_true rfl) rfl ?_
  intro p e s m below meth c B hr hnm hsz
  have B : gB p l s m ([.ref (ed 0)] : List Value).toArray meth c RX2 cX2_next 3 g (va_A [((ed 0), cE (ed 1) (ed 7) (ad 0) en), ((ed 1), cA (ed 2) al4), ((ed 2), .inl (g.2.2.1, 10, .inr (.inr (.inr (.inr (vq ed)))))), ((ed 3), cV (vf 0)), ((ed 4), cV (vf 1)), ((ed 5), cV (vf 2)), ((ed 6), cV (vf 3))] sz) := B
  refine g_iconst (v := 0) B dX2_next_0 kc_0 ?_
  refine g_istore_n B 1 [(1, .int 0), (0, .ref (ed 0))] dX2_next_1 rfl (Nat.le_of_ble_eq_true rfl) rfl ?_
  refine g_iconst (v := 1) B dX2_next_2 kc_1 ?_
  refine g_istore_n B 2 [(2, .int 1), (1, .int 0), (0, .ref (ed 0))] dX2_next_3 rfl (Nat.le_of_ble_eq_true rfl) rfl ?_
  refine g_iload_n B 2 0 dX2_next_4 rfl rfl ?_
  refine g_iconst (v := 4) B dX2_next_5 kc_4 ?_
  refine g_icmp_ge_F (tgt := 45) B dX2_next_6 (by decide) (by decide) ?_
  refine g_aload_n B 0 2 dX2_next_9 rfl rfl ?_
  refine g_get (C := RX2) (T := TX2) (N := 12) B 1 0 0 (.ref (ed 1)) in_X2 rfl q92 rfl (Nat.le_of_ble_eq_true rfl) (fun _ h9 => h9) rfl dX2_next_10 ?_
  refine g_iload_n B 2 0 dX2_next_13 rfl rfl ?_
  refine g_cuV_q (C := RJ2) (T := TJ2) (N := 3) (As := [.int 1]) B (m_J2_get l hst g (ed 1) (ed 2) al4 10 (vq ed) 1 1 (ed 4) (by decide) (by decide) (by decide) (vpc rfl) rfl) 7 0 rfl rfl [1, 2] [] (lw_V q410 q411 q412 q29 q413) nvJ2_get rfl rfl rfl rfl (Nat.le_of_ble_eq_true rfl) dX2_next_14 ⟨Nat.le_of_ble_eq_true rfl, Nat.le_of_ble_eq_true rfl⟩ ⟨Nat.le_of_ble_eq_true rfl, Nat.le_of_ble_eq_true rfl⟩ (fun r_1 ur_1 hr_1 => ?_)
  obtain rfl : some (ed 4) = r_1 := (hr_1).symm
  refine g_eqs (st' := [.ref (ed 4)]) rfl ?_
  refine g_cast (C := RX5) (T := TX5) (N := 11) B 4 4 q424 rfl rfl dX2_next_17 ?_
  refine g_aload_n B 0 2 dX2_next_20 rfl rfl ?_
  refine g_get (C := RX2) (T := TX2) (N := 12) B 1 0 0 (.ref (ed 1)) in_X2 rfl q92 rfl (Nat.le_of_ble_eq_true rfl) (fun _ h9 => h9) rfl dX2_next_21 ?_
  refine g_iload_n B 1 1 dX2_next_24 rfl rfl ?_
  refine g_cuV_q (C := RJ2) (T := TJ2) (N := 3) (As := [.int 0]) B (m_J2_get l hst g (ed 1) (ed 2) al4 10 (vq ed) 0 0 (ed 3) (by decide) (by decide) (by decide) (vpc rfl) rfl) 7 0 rfl rfl [1, 2] [.ref (ed 4)] (lw_V q410 q411 q412 q29 q413) nvJ2_get rfl rfl rfl rfl (Nat.le_of_ble_eq_true rfl) dX2_next_25 ⟨Nat.le_of_ble_eq_true rfl, Nat.le_of_ble_eq_true rfl⟩ ⟨Nat.le_of_ble_eq_true rfl, Nat.le_of_ble_eq_true rfl⟩ (fun r_2 ur_2 hr_2 => ?_)
  obtain rfl : some (ed 3) = r_2 := (hr_2).symm
  refine g_eqs (st' := [.ref (ed 3), .ref (ed 4)]) rfl ?_
  refine g_cast (C := RX5) (T := TX5) (N := 11) B 4 3 q424 rfl rfl dX2_next_28 ?_
  refine g_cuS_i (As := [.ref (ed 4), .ref (ed 3)]) B (m_X2_isAhead l hst g (ed 4) (ed 3) (vf 1) (vf 0)) [4, 3] [] (lw_S q471 q472 q30 q473) nsX2_isAhead rfl rfl rfl rfl (Nat.le_of_ble_eq_true rfl) dX2_next_31 ⟨Nat.le_of_ble_eq_true rfl, Nat.le_of_ble_eq_true rfl⟩ ⟨Nat.le_of_ble_eq_true rfl, Nat.le_of_ble_eq_true rfl⟩ (fun r_3 ur_3 hr_3 => ?_)
  have hr_3 : r_3 = (v_ahead (vf 1) (vf 0)) := hr_3
  refine g_if_eq (tgt := 39) B dX2_next_34 (by decide) (fun c_4 => ?_) (fun c_4 => ?_)
  · skip
    refine g_iinc B 0 2 [(2, .int 2), (1, .int 0), (0, .ref (ed 0))] dX2_next_39 rfl (by decide) (Nat.le_of_ble_eq_true rfl) rfl ?_
    refine g_goto (tgt := 4) B dX2_next_42 (by decide) ?_
    refine g_iload_n B 2 0 dX2_next_4 rfl rfl ?_
    refine g_iconst (v := 4) B dX2_next_5 kc_4 ?_
    refine g_icmp_ge_F (tgt := 45) B dX2_next_6 (by decide) (by decide) ?_
    refine g_aload_n B 0 2 dX2_next_9 rfl rfl ?_
    refine g_get (C := RX2) (T := TX2) (N := 12) B 1 0 0 (.ref (ed 1)) in_X2 rfl q92 rfl (Nat.le_of_ble_eq_true rfl) (fun _ h9 => h9) rfl dX2_next_10 ?_
    refine g_iload_n B 2 0 dX2_next_13 rfl rfl ?_
    refine g_cuV_q (C := RJ2) (T := TJ2) (N := 3) (As := [.int 2]) B (m_J2_get l hst g (ed 1) (ed 2) al4 10 (vq ed) 2 2 (ed 5) (by decide) (by decide) (by decide) (vpc rfl) rfl) 7 0 rfl rfl [1, 2] [] (lw_V q410 q411 q412 q29 q413) nvJ2_get rfl rfl rfl rfl (Nat.le_of_ble_eq_true rfl) dX2_next_14 ⟨Nat.le_of_ble_eq_true rfl, Nat.le_of_ble_eq_true rfl⟩ ⟨Nat.le_of_ble_eq_true rfl, Nat.le_of_ble_eq_true rfl⟩ (fun r_5 ur_5 hr_5 => ?_)
    obtain rfl : some (ed 5) = r_5 := (hr_5).symm
    refine g_eqs (st' := [.ref (ed 5)]) rfl ?_
    refine g_cast (C := RX5) (T := TX5) (N := 11) B 4 5 q424 rfl rfl dX2_next_17 ?_
    refine g_aload_n B 0 2 dX2_next_20 rfl rfl ?_
    refine g_get (C := RX2) (T := TX2) (N := 12) B 1 0 0 (.ref (ed 1)) in_X2 rfl q92 rfl (Nat.le_of_ble_eq_true rfl) (fun _ h9 => h9) rfl dX2_next_21 ?_
    refine g_iload_n B 1 1 dX2_next_24 rfl rfl ?_
    refine g_cuV_q (C := RJ2) (T := TJ2) (N := 3) (As := [.int 0]) B (m_J2_get l hst g (ed 1) (ed 2) al4 10 (vq ed) 0 0 (ed 3) (by decide) (by decide) (by decide) (vpc rfl) rfl) 7 0 rfl rfl [1, 2] [.ref (ed 5)] (lw_V q410 q411 q412 q29 q413) nvJ2_get rfl rfl rfl rfl (Nat.le_of_ble_eq_true rfl) dX2_next_25 ⟨Nat.le_of_ble_eq_true rfl, Nat.le_of_ble_eq_true rfl⟩ ⟨Nat.le_of_ble_eq_true rfl, Nat.le_of_ble_eq_true rfl⟩ (fun r_6 ur_6 hr_6 => ?_)
    obtain rfl : some (ed 3) = r_6 := (hr_6).symm
    refine g_eqs (st' := [.ref (ed 3), .ref (ed 5)]) rfl ?_
    refine g_cast (C := RX5) (T := TX5) (N := 11) B 4 3 q424 rfl rfl dX2_next_28 ?_
    refine g_cuS_i (As := [.ref (ed 5), .ref (ed 3)]) B (m_X2_isAhead l hst g (ed 5) (ed 3) (vf 2) (vf 0)) [5, 3] [] (lw_S q471 q472 q30 q473) nsX2_isAhead rfl rfl rfl rfl (Nat.le_of_ble_eq_true rfl) dX2_next_31 ⟨Nat.le_of_ble_eq_true rfl, Nat.le_of_ble_eq_true rfl⟩ ⟨Nat.le_of_ble_eq_true rfl, Nat.le_of_ble_eq_true rfl⟩ (fun r_7 ur_7 hr_7 => ?_)
    have hr_7 : r_7 = (v_ahead (vf 2) (vf 0)) := hr_7
    refine g_if_eq (tgt := 39) B dX2_next_34 (by decide) (fun c_8 => ?_) (fun c_8 => ?_)
    · skip
      refine g_iinc B 0 3 [(2, .int 3), (1, .int 0), (0, .ref (ed 0))] dX2_next_39 rfl (by decide) (Nat.le_of_ble_eq_true rfl) rfl ?_
      refine g_goto (tgt := 4) B dX2_next_42 (by decide) ?_
      refine g_iload_n B 2 0 dX2_next_4 rfl rfl ?_
      refine g_iconst (v := 4) B dX2_next_5 kc_4 ?_
      refine g_icmp_ge_F (tgt := 45) B dX2_next_6 (by decide) (by decide) ?_
      refine g_aload_n B 0 2 dX2_next_9 rfl rfl ?_
      refine g_get (C := RX2) (T := TX2) (N := 12) B 1 0 0 (.ref (ed 1)) in_X2 rfl q92 rfl (Nat.le_of_ble_eq_true rfl) (fun _ h9 => h9) rfl dX2_next_10 ?_
      refine g_iload_n B 2 0 dX2_next_13 rfl rfl ?_
      refine g_cuV_q (C := RJ2) (T := TJ2) (N := 3) (As := [.int 3]) B (m_J2_get l hst g (ed 1) (ed 2) al4 10 (vq ed) 3 3 (ed 6) (by decide) (by decide) (by decide) (vpc rfl) rfl) 7 0 rfl rfl [1, 2] [] (lw_V q410 q411 q412 q29 q413) nvJ2_get rfl rfl rfl rfl (Nat.le_of_ble_eq_true rfl) dX2_next_14 ⟨Nat.le_of_ble_eq_true rfl, Nat.le_of_ble_eq_true rfl⟩ ⟨Nat.le_of_ble_eq_true rfl, Nat.le_of_ble_eq_true rfl⟩ (fun r_9 ur_9 hr_9 => ?_)
      obtain rfl : some (ed 6) = r_9 := (hr_9).symm
      refine g_eqs (st' := [.ref (ed 6)]) rfl ?_
      refine g_cast (C := RX5) (T := TX5) (N := 11) B 4 6 q424 rfl rfl dX2_next_17 ?_
      refine g_aload_n B 0 2 dX2_next_20 rfl rfl ?_
      refine g_get (C := RX2) (T := TX2) (N := 12) B 1 0 0 (.ref (ed 1)) in_X2 rfl q92 rfl (Nat.le_of_ble_eq_true rfl) (fun _ h9 => h9) rfl dX2_next_21 ?_
      refine g_iload_n B 1 1 dX2_next_24 rfl rfl ?_
      refine g_cuV_q (C := RJ2) (T := TJ2) (N := 3) (As := [.int 0]) B (m_J2_get l hst g (ed 1) (ed 2) al4 10 (vq ed) 0 0 (ed 3) (by decide) (by decide) (by decide) (vpc rfl) rfl) 7 0 rfl rfl [1, 2] [.ref (ed 6)] (lw_V q410 q411 q412 q29 q413) nvJ2_get rfl rfl rfl rfl (Nat.le_of_ble_eq_true rfl) dX2_next_25 ⟨Nat.le_of_ble_eq_true rfl, Nat.le_of_ble_eq_true rfl⟩ ⟨Nat.le_of_ble_eq_true rfl, Nat.le_of_ble_eq_true rfl⟩ (fun r_10 ur_10 hr_10 => ?_)
      obtain rfl : some (ed 3) = r_10 := (hr_10).symm
      refine g_eqs (st' := [.ref (ed 3), .ref (ed 6)]) rfl ?_
      refine g_cast (C := RX5) (T := TX5) (N := 11) B 4 3 q424 rfl rfl dX2_next_28 ?_
      refine g_cuS_i (As := [.ref (ed 6), .ref (ed 3)]) B (m_X2_isAhead l hst g (ed 6) (ed 3) (vf 3) (vf 0)) [6, 3] [] (lw_S q471 q472 q30 q473) nsX2_isAhead rfl rfl rfl rfl (Nat.le_of_ble_eq_true rfl) dX2_next_31 ⟨Nat.le_of_ble_eq_true rfl, Nat.le_of_ble_eq_true rfl⟩ ⟨Nat.le_of_ble_eq_true rfl, Nat.le_of_ble_eq_true rfl⟩ (fun r_11 ur_11 hr_11 => ?_)
      have hr_11 : r_11 = (v_ahead (vf 3) (vf 0)) := hr_11
      refine g_if_eq (tgt := 39) B dX2_next_34 (by decide) (fun c_12 => ?_) (fun c_12 => ?_)
      · skip
        refine g_iinc B 0 4 [(2, .int 4), (1, .int 0), (0, .ref (ed 0))] dX2_next_39 rfl (by decide) (Nat.le_of_ble_eq_true rfl) rfl ?_
        refine g_goto (tgt := 4) B dX2_next_42 (by decide) ?_
        refine g_iload_n B 2 0 dX2_next_4 rfl rfl ?_
        refine g_iconst (v := 4) B dX2_next_5 kc_4 ?_
        refine g_icmp_ge_T (tgt := 45) B dX2_next_6 (by decide) (by decide) ?_
        refine g_iload_n B 1 1 dX2_next_45 rfl rfl ?_
        subst hr_3
        subst hr_7
        subst hr_11
        exact g_iret B hr dX2_next_46 (Nat.le_of_ble_eq_true rfl) (Nat.le_of_ble_eq_true rfl) () (by first | (simp only [v_nx, v_n2, v_n1, if_pos c_4, if_pos c_8, if_pos c_12]; done) | (simp only [v_nx, v_n2, v_n1, if_pos c_4, if_pos c_8, if_pos c_12]; rfl) | rfl) [0, 1, 2, 3, 4, 5, 6] rfl rfl
      · skip
        refine g_iload_n B 2 0 dX2_next_37 rfl rfl ?_
        refine g_istore_n B 1 [(1, .int 3), (2, .int 3), (0, .ref (ed 0))] dX2_next_38 rfl (Nat.le_of_ble_eq_true rfl) rfl ?_
        refine g_iinc B 1 4 [(2, .int 4), (1, .int 3), (0, .ref (ed 0))] dX2_next_39 rfl (by decide) (Nat.le_of_ble_eq_true rfl) rfl ?_
        refine g_goto (tgt := 4) B dX2_next_42 (by decide) ?_
        refine g_iload_n B 2 0 dX2_next_4 rfl rfl ?_
        refine g_iconst (v := 4) B dX2_next_5 kc_4 ?_
        refine g_icmp_ge_T (tgt := 45) B dX2_next_6 (by decide) (by decide) ?_
        refine g_iload_n B 1 1 dX2_next_45 rfl rfl ?_
        subst hr_3
        subst hr_7
        subst hr_11
        exact g_iret B hr dX2_next_46 (Nat.le_of_ble_eq_true rfl) (Nat.le_of_ble_eq_true rfl) () (by first | (simp only [v_nx, v_n2, v_n1, if_pos c_4, if_pos c_8, if_neg c_12]; done) | (simp only [v_nx, v_n2, v_n1, if_pos c_4, if_pos c_8, if_neg c_12]; rfl) | rfl) [0, 1, 2, 3, 4, 5, 6] rfl rfl
    · skip
      refine g_iload_n B 2 0 dX2_next_37 rfl rfl ?_
      refine g_istore_n B 1 [(1, .int 2), (2, .int 2), (0, .ref (ed 0))] dX2_next_38 rfl (Nat.le_of_ble_eq_true rfl) rfl ?_
      refine g_iinc B 1 3 [(2, .int 3), (1, .int 2), (0, .ref (ed 0))] dX2_next_39 rfl (by decide) (Nat.le_of_ble_eq_true rfl) rfl ?_
      refine g_goto (tgt := 4) B dX2_next_42 (by decide) ?_
      refine g_iload_n B 2 0 dX2_next_4 rfl rfl ?_
      refine g_iconst (v := 4) B dX2_next_5 kc_4 ?_
      refine g_icmp_ge_F (tgt := 45) B dX2_next_6 (by decide) (by decide) ?_
      refine g_aload_n B 0 2 dX2_next_9 rfl rfl ?_
      refine g_get (C := RX2) (T := TX2) (N := 12) B 1 0 0 (.ref (ed 1)) in_X2 rfl q92 rfl (Nat.le_of_ble_eq_true rfl) (fun _ h9 => h9) rfl dX2_next_10 ?_
      refine g_iload_n B 2 0 dX2_next_13 rfl rfl ?_
      refine g_cuV_q (C := RJ2) (T := TJ2) (N := 3) (As := [.int 3]) B (m_J2_get l hst g (ed 1) (ed 2) al4 10 (vq ed) 3 3 (ed 6) (by decide) (by decide) (by decide) (vpc rfl) rfl) 7 0 rfl rfl [1, 2] [] (lw_V q410 q411 q412 q29 q413) nvJ2_get rfl rfl rfl rfl (Nat.le_of_ble_eq_true rfl) dX2_next_14 ⟨Nat.le_of_ble_eq_true rfl, Nat.le_of_ble_eq_true rfl⟩ ⟨Nat.le_of_ble_eq_true rfl, Nat.le_of_ble_eq_true rfl⟩ (fun r_13 ur_13 hr_13 => ?_)
      obtain rfl : some (ed 6) = r_13 := (hr_13).symm
      refine g_eqs (st' := [.ref (ed 6)]) rfl ?_
      refine g_cast (C := RX5) (T := TX5) (N := 11) B 4 6 q424 rfl rfl dX2_next_17 ?_
      refine g_aload_n B 0 2 dX2_next_20 rfl rfl ?_
      refine g_get (C := RX2) (T := TX2) (N := 12) B 1 0 0 (.ref (ed 1)) in_X2 rfl q92 rfl (Nat.le_of_ble_eq_true rfl) (fun _ h9 => h9) rfl dX2_next_21 ?_
      refine g_iload_n B 1 1 dX2_next_24 rfl rfl ?_
      refine g_cuV_q (C := RJ2) (T := TJ2) (N := 3) (As := [.int 2]) B (m_J2_get l hst g (ed 1) (ed 2) al4 10 (vq ed) 2 2 (ed 5) (by decide) (by decide) (by decide) (vpc rfl) rfl) 7 0 rfl rfl [1, 2] [.ref (ed 6)] (lw_V q410 q411 q412 q29 q413) nvJ2_get rfl rfl rfl rfl (Nat.le_of_ble_eq_true rfl) dX2_next_25 ⟨Nat.le_of_ble_eq_true rfl, Nat.le_of_ble_eq_true rfl⟩ ⟨Nat.le_of_ble_eq_true rfl, Nat.le_of_ble_eq_true rfl⟩ (fun r_14 ur_14 hr_14 => ?_)
      obtain rfl : some (ed 5) = r_14 := (hr_14).symm
      refine g_eqs (st' := [.ref (ed 5), .ref (ed 6)]) rfl ?_
      refine g_cast (C := RX5) (T := TX5) (N := 11) B 4 5 q424 rfl rfl dX2_next_28 ?_
      refine g_cuS_i (As := [.ref (ed 6), .ref (ed 5)]) B (m_X2_isAhead l hst g (ed 6) (ed 5) (vf 3) (vf 2)) [6, 5] [] (lw_S q471 q472 q30 q473) nsX2_isAhead rfl rfl rfl rfl (Nat.le_of_ble_eq_true rfl) dX2_next_31 ⟨Nat.le_of_ble_eq_true rfl, Nat.le_of_ble_eq_true rfl⟩ ⟨Nat.le_of_ble_eq_true rfl, Nat.le_of_ble_eq_true rfl⟩ (fun r_15 ur_15 hr_15 => ?_)
      have hr_15 : r_15 = (v_ahead (vf 3) (vf 2)) := hr_15
      refine g_if_eq (tgt := 39) B dX2_next_34 (by decide) (fun c_16 => ?_) (fun c_16 => ?_)
      · skip
        refine g_iinc B 0 4 [(2, .int 4), (1, .int 2), (0, .ref (ed 0))] dX2_next_39 rfl (by decide) (Nat.le_of_ble_eq_true rfl) rfl ?_
        refine g_goto (tgt := 4) B dX2_next_42 (by decide) ?_
        refine g_iload_n B 2 0 dX2_next_4 rfl rfl ?_
        refine g_iconst (v := 4) B dX2_next_5 kc_4 ?_
        refine g_icmp_ge_T (tgt := 45) B dX2_next_6 (by decide) (by decide) ?_
        refine g_iload_n B 1 1 dX2_next_45 rfl rfl ?_
        subst hr_3
        subst hr_7
        subst hr_15
        exact g_iret B hr dX2_next_46 (Nat.le_of_ble_eq_true rfl) (Nat.le_of_ble_eq_true rfl) () (by first | (simp only [v_nx, v_n2, v_n1, if_pos c_4, if_neg c_8, if_pos c_16]; done) | (simp only [v_nx, v_n2, v_n1, if_pos c_4, if_neg c_8, if_pos c_16]; rfl) | rfl) [0, 1, 2, 3, 4, 5, 6] rfl rfl
      · skip
        refine g_iload_n B 2 0 dX2_next_37 rfl rfl ?_
        refine g_istore_n B 1 [(1, .int 3), (2, .int 3), (0, .ref (ed 0))] dX2_next_38 rfl (Nat.le_of_ble_eq_true rfl) rfl ?_
        refine g_iinc B 1 4 [(2, .int 4), (1, .int 3), (0, .ref (ed 0))] dX2_next_39 rfl (by decide) (Nat.le_of_ble_eq_true rfl) rfl ?_
        refine g_goto (tgt := 4) B dX2_next_42 (by decide) ?_
        refine g_iload_n B 2 0 dX2_next_4 rfl rfl ?_
        refine g_iconst (v := 4) B dX2_next_5 kc_4 ?_
        refine g_icmp_ge_T (tgt := 45) B dX2_next_6 (by decide) (by decide) ?_
        refine g_iload_n B 1 1 dX2_next_45 rfl rfl ?_
        subst hr_3
        subst hr_7
        subst hr_15
        exact g_iret B hr dX2_next_46 (Nat.le_of_ble_eq_true rfl) (Nat.le_of_ble_eq_true rfl) () (by first | (simp only [v_nx, v_n2, v_n1, if_pos c_4, if_neg c_8, if_neg c_16]; done) | (simp only [v_nx, v_n2, v_n1, if_pos c_4, if_neg c_8, if_neg c_16]; rfl) | rfl) [0, 1, 2, 3, 4, 5, 6] rfl rfl
  · skip
    refine g_iload_n B 2 0 dX2_next_37 rfl rfl ?_
    refine g_istore_n B 1 [(1, .int 1), (2, .int 1), (0, .ref (ed 0))] dX2_next_38 rfl (Nat.le_of_ble_eq_true rfl) rfl ?_
    refine g_iinc B 1 2 [(2, .int 2), (1, .int 1), (0, .ref (ed 0))] dX2_next_39 rfl (by decide) (Nat.le_of_ble_eq_true rfl) rfl ?_
    refine g_goto (tgt := 4) B dX2_next_42 (by decide) ?_
    refine g_iload_n B 2 0 dX2_next_4 rfl rfl ?_
    refine g_iconst (v := 4) B dX2_next_5 kc_4 ?_
    refine g_icmp_ge_F (tgt := 45) B dX2_next_6 (by decide) (by decide) ?_
    refine g_aload_n B 0 2 dX2_next_9 rfl rfl ?_
    refine g_get (C := RX2) (T := TX2) (N := 12) B 1 0 0 (.ref (ed 1)) in_X2 rfl q92 rfl (Nat.le_of_ble_eq_true rfl) (fun _ h9 => h9) rfl dX2_next_10 ?_
    refine g_iload_n B 2 0 dX2_next_13 rfl rfl ?_
    refine g_cuV_q (C := RJ2) (T := TJ2) (N := 3) (As := [.int 2]) B (m_J2_get l hst g (ed 1) (ed 2) al4 10 (vq ed) 2 2 (ed 5) (by decide) (by decide) (by decide) (vpc rfl) rfl) 7 0 rfl rfl [1, 2] [] (lw_V q410 q411 q412 q29 q413) nvJ2_get rfl rfl rfl rfl (Nat.le_of_ble_eq_true rfl) dX2_next_14 ⟨Nat.le_of_ble_eq_true rfl, Nat.le_of_ble_eq_true rfl⟩ ⟨Nat.le_of_ble_eq_true rfl, Nat.le_of_ble_eq_true rfl⟩ (fun r_17 ur_17 hr_17 => ?_)
    obtain rfl : some (ed 5) = r_17 := (hr_17).symm
    refine g_eqs (st' := [.ref (ed 5)]) rfl ?_
    refine g_cast (C := RX5) (T := TX5) (N := 11) B 4 5 q424 rfl rfl dX2_next_17 ?_
    refine g_aload_n B 0 2 dX2_next_20 rfl rfl ?_
    refine g_get (C := RX2) (T := TX2) (N := 12) B 1 0 0 (.ref (ed 1)) in_X2 rfl q92 rfl (Nat.le_of_ble_eq_true rfl) (fun _ h9 => h9) rfl dX2_next_21 ?_
    refine g_iload_n B 1 1 dX2_next_24 rfl rfl ?_
    refine g_cuV_q (C := RJ2) (T := TJ2) (N := 3) (As := [.int 1]) B (m_J2_get l hst g (ed 1) (ed 2) al4 10 (vq ed) 1 1 (ed 4) (by decide) (by decide) (by decide) (vpc rfl) rfl) 7 0 rfl rfl [1, 2] [.ref (ed 5)] (lw_V q410 q411 q412 q29 q413) nvJ2_get rfl rfl rfl rfl (Nat.le_of_ble_eq_true rfl) dX2_next_25 ⟨Nat.le_of_ble_eq_true rfl, Nat.le_of_ble_eq_true rfl⟩ ⟨Nat.le_of_ble_eq_true rfl, Nat.le_of_ble_eq_true rfl⟩ (fun r_18 ur_18 hr_18 => ?_)
    obtain rfl : some (ed 4) = r_18 := (hr_18).symm
    refine g_eqs (st' := [.ref (ed 4), .ref (ed 5)]) rfl ?_
    refine g_cast (C := RX5) (T := TX5) (N := 11) B 4 4 q424 rfl rfl dX2_next_28 ?_
    refine g_cuS_i (As := [.ref (ed 5), .ref (ed 4)]) B (m_X2_isAhead l hst g (ed 5) (ed 4) (vf 2) (vf 1)) [5, 4] [] (lw_S q471 q472 q30 q473) nsX2_isAhead rfl rfl rfl rfl (Nat.le_of_ble_eq_true rfl) dX2_next_31 ⟨Nat.le_of_ble_eq_true rfl, Nat.le_of_ble_eq_true rfl⟩ ⟨Nat.le_of_ble_eq_true rfl, Nat.le_of_ble_eq_true rfl⟩ (fun r_19 ur_19 hr_19 => ?_)
    have hr_19 : r_19 = (v_ahead (vf 2) (vf 1)) := hr_19
    refine g_if_eq (tgt := 39) B dX2_next_34 (by decide) (fun c_20 => ?_) (fun c_20 => ?_)
    · skip
      refine g_iinc B 0 3 [(2, .int 3), (1, .int 1), (0, .ref (ed 0))] dX2_next_39 rfl (by decide) (Nat.le_of_ble_eq_true rfl) rfl ?_
      refine g_goto (tgt := 4) B dX2_next_42 (by decide) ?_
      refine g_iload_n B 2 0 dX2_next_4 rfl rfl ?_
      refine g_iconst (v := 4) B dX2_next_5 kc_4 ?_
      refine g_icmp_ge_F (tgt := 45) B dX2_next_6 (by decide) (by decide) ?_
      refine g_aload_n B 0 2 dX2_next_9 rfl rfl ?_
      refine g_get (C := RX2) (T := TX2) (N := 12) B 1 0 0 (.ref (ed 1)) in_X2 rfl q92 rfl (Nat.le_of_ble_eq_true rfl) (fun _ h9 => h9) rfl dX2_next_10 ?_
      refine g_iload_n B 2 0 dX2_next_13 rfl rfl ?_
      refine g_cuV_q (C := RJ2) (T := TJ2) (N := 3) (As := [.int 3]) B (m_J2_get l hst g (ed 1) (ed 2) al4 10 (vq ed) 3 3 (ed 6) (by decide) (by decide) (by decide) (vpc rfl) rfl) 7 0 rfl rfl [1, 2] [] (lw_V q410 q411 q412 q29 q413) nvJ2_get rfl rfl rfl rfl (Nat.le_of_ble_eq_true rfl) dX2_next_14 ⟨Nat.le_of_ble_eq_true rfl, Nat.le_of_ble_eq_true rfl⟩ ⟨Nat.le_of_ble_eq_true rfl, Nat.le_of_ble_eq_true rfl⟩ (fun r_21 ur_21 hr_21 => ?_)
      obtain rfl : some (ed 6) = r_21 := (hr_21).symm
      refine g_eqs (st' := [.ref (ed 6)]) rfl ?_
      refine g_cast (C := RX5) (T := TX5) (N := 11) B 4 6 q424 rfl rfl dX2_next_17 ?_
      refine g_aload_n B 0 2 dX2_next_20 rfl rfl ?_
      refine g_get (C := RX2) (T := TX2) (N := 12) B 1 0 0 (.ref (ed 1)) in_X2 rfl q92 rfl (Nat.le_of_ble_eq_true rfl) (fun _ h9 => h9) rfl dX2_next_21 ?_
      refine g_iload_n B 1 1 dX2_next_24 rfl rfl ?_
      refine g_cuV_q (C := RJ2) (T := TJ2) (N := 3) (As := [.int 1]) B (m_J2_get l hst g (ed 1) (ed 2) al4 10 (vq ed) 1 1 (ed 4) (by decide) (by decide) (by decide) (vpc rfl) rfl) 7 0 rfl rfl [1, 2] [.ref (ed 6)] (lw_V q410 q411 q412 q29 q413) nvJ2_get rfl rfl rfl rfl (Nat.le_of_ble_eq_true rfl) dX2_next_25 ⟨Nat.le_of_ble_eq_true rfl, Nat.le_of_ble_eq_true rfl⟩ ⟨Nat.le_of_ble_eq_true rfl, Nat.le_of_ble_eq_true rfl⟩ (fun r_22 ur_22 hr_22 => ?_)
      obtain rfl : some (ed 4) = r_22 := (hr_22).symm
      refine g_eqs (st' := [.ref (ed 4), .ref (ed 6)]) rfl ?_
      refine g_cast (C := RX5) (T := TX5) (N := 11) B 4 4 q424 rfl rfl dX2_next_28 ?_
      refine g_cuS_i (As := [.ref (ed 6), .ref (ed 4)]) B (m_X2_isAhead l hst g (ed 6) (ed 4) (vf 3) (vf 1)) [6, 4] [] (lw_S q471 q472 q30 q473) nsX2_isAhead rfl rfl rfl rfl (Nat.le_of_ble_eq_true rfl) dX2_next_31 ⟨Nat.le_of_ble_eq_true rfl, Nat.le_of_ble_eq_true rfl⟩ ⟨Nat.le_of_ble_eq_true rfl, Nat.le_of_ble_eq_true rfl⟩ (fun r_23 ur_23 hr_23 => ?_)
      have hr_23 : r_23 = (v_ahead (vf 3) (vf 1)) := hr_23
      refine g_if_eq (tgt := 39) B dX2_next_34 (by decide) (fun c_24 => ?_) (fun c_24 => ?_)
      · skip
        refine g_iinc B 0 4 [(2, .int 4), (1, .int 1), (0, .ref (ed 0))] dX2_next_39 rfl (by decide) (Nat.le_of_ble_eq_true rfl) rfl ?_
        refine g_goto (tgt := 4) B dX2_next_42 (by decide) ?_
        refine g_iload_n B 2 0 dX2_next_4 rfl rfl ?_
        refine g_iconst (v := 4) B dX2_next_5 kc_4 ?_
        refine g_icmp_ge_T (tgt := 45) B dX2_next_6 (by decide) (by decide) ?_
        refine g_iload_n B 1 1 dX2_next_45 rfl rfl ?_
        subst hr_3
        subst hr_19
        subst hr_23
        exact g_iret B hr dX2_next_46 (Nat.le_of_ble_eq_true rfl) (Nat.le_of_ble_eq_true rfl) () (by first | (simp only [v_nx, v_n2, v_n1, if_neg c_4, if_pos c_20, if_pos c_24]; done) | (simp only [v_nx, v_n2, v_n1, if_neg c_4, if_pos c_20, if_pos c_24]; rfl) | rfl) [0, 1, 2, 3, 4, 5, 6] rfl rfl
      · skip
        refine g_iload_n B 2 0 dX2_next_37 rfl rfl ?_
        refine g_istore_n B 1 [(1, .int 3), (2, .int 3), (0, .ref (ed 0))] dX2_next_38 rfl (Nat.le_of_ble_eq_true rfl) rfl ?_
        refine g_iinc B 1 4 [(2, .int 4), (1, .int 3), (0, .ref (ed 0))] dX2_next_39 rfl (by decide) (Nat.le_of_ble_eq_true rfl) rfl ?_
        refine g_goto (tgt := 4) B dX2_next_42 (by decide) ?_
        refine g_iload_n B 2 0 dX2_next_4 rfl rfl ?_
        refine g_iconst (v := 4) B dX2_next_5 kc_4 ?_
        refine g_icmp_ge_T (tgt := 45) B dX2_next_6 (by decide) (by decide) ?_
        refine g_iload_n B 1 1 dX2_next_45 rfl rfl ?_
        subst hr_3
        subst hr_19
        subst hr_23
        exact g_iret B hr dX2_next_46 (Nat.le_of_ble_eq_true rfl) (Nat.le_of_ble_eq_true rfl) () (by first | (simp only [v_nx, v_n2, v_n1, if_neg c_4, if_pos c_20, if_neg c_24]; done) | (simp only [v_nx, v_n2, v_n1, if_neg c_4, if_pos c_20, if_neg c_24]; rfl) | rfl) [0, 1, 2, 3, 4, 5, 6] rfl rfl
    · skip
      refine g_iload_n B 2 0 dX2_next_37 rfl rfl ?_
      refine g_istore_n B 1 [(1, .int 2), (2, .int 2), (0, .ref (ed 0))] dX2_next_38 rfl (Nat.le_of_ble_eq_true rfl) rfl ?_
      refine g_iinc B 1 3 [(2, .int 3), (1, .int 2), (0, .ref (ed 0))] dX2_next_39 rfl (by decide) (Nat.le_of_ble_eq_true rfl) rfl ?_
      refine g_goto (tgt := 4) B dX2_next_42 (by decide) ?_
      refine g_iload_n B 2 0 dX2_next_4 rfl rfl ?_
      refine g_iconst (v := 4) B dX2_next_5 kc_4 ?_
      refine g_icmp_ge_F (tgt := 45) B dX2_next_6 (by decide) (by decide) ?_
      refine g_aload_n B 0 2 dX2_next_9 rfl rfl ?_
      refine g_get (C := RX2) (T := TX2) (N := 12) B 1 0 0 (.ref (ed 1)) in_X2 rfl q92 rfl (Nat.le_of_ble_eq_true rfl) (fun _ h9 => h9) rfl dX2_next_10 ?_
      refine g_iload_n B 2 0 dX2_next_13 rfl rfl ?_
      refine g_cuV_q (C := RJ2) (T := TJ2) (N := 3) (As := [.int 3]) B (m_J2_get l hst g (ed 1) (ed 2) al4 10 (vq ed) 3 3 (ed 6) (by decide) (by decide) (by decide) (vpc rfl) rfl) 7 0 rfl rfl [1, 2] [] (lw_V q410 q411 q412 q29 q413) nvJ2_get rfl rfl rfl rfl (Nat.le_of_ble_eq_true rfl) dX2_next_14 ⟨Nat.le_of_ble_eq_true rfl, Nat.le_of_ble_eq_true rfl⟩ ⟨Nat.le_of_ble_eq_true rfl, Nat.le_of_ble_eq_true rfl⟩ (fun r_25 ur_25 hr_25 => ?_)
      obtain rfl : some (ed 6) = r_25 := (hr_25).symm
      refine g_eqs (st' := [.ref (ed 6)]) rfl ?_
      refine g_cast (C := RX5) (T := TX5) (N := 11) B 4 6 q424 rfl rfl dX2_next_17 ?_
      refine g_aload_n B 0 2 dX2_next_20 rfl rfl ?_
      refine g_get (C := RX2) (T := TX2) (N := 12) B 1 0 0 (.ref (ed 1)) in_X2 rfl q92 rfl (Nat.le_of_ble_eq_true rfl) (fun _ h9 => h9) rfl dX2_next_21 ?_
      refine g_iload_n B 1 1 dX2_next_24 rfl rfl ?_
      refine g_cuV_q (C := RJ2) (T := TJ2) (N := 3) (As := [.int 2]) B (m_J2_get l hst g (ed 1) (ed 2) al4 10 (vq ed) 2 2 (ed 5) (by decide) (by decide) (by decide) (vpc rfl) rfl) 7 0 rfl rfl [1, 2] [.ref (ed 6)] (lw_V q410 q411 q412 q29 q413) nvJ2_get rfl rfl rfl rfl (Nat.le_of_ble_eq_true rfl) dX2_next_25 ⟨Nat.le_of_ble_eq_true rfl, Nat.le_of_ble_eq_true rfl⟩ ⟨Nat.le_of_ble_eq_true rfl, Nat.le_of_ble_eq_true rfl⟩ (fun r_26 ur_26 hr_26 => ?_)
      obtain rfl : some (ed 5) = r_26 := (hr_26).symm
      refine g_eqs (st' := [.ref (ed 5), .ref (ed 6)]) rfl ?_
      refine g_cast (C := RX5) (T := TX5) (N := 11) B 4 5 q424 rfl rfl dX2_next_28 ?_
      refine g_cuS_i (As := [.ref (ed 6), .ref (ed 5)]) B (m_X2_isAhead l hst g (ed 6) (ed 5) (vf 3) (vf 2)) [6, 5] [] (lw_S q471 q472 q30 q473) nsX2_isAhead rfl rfl rfl rfl (Nat.le_of_ble_eq_true rfl) dX2_next_31 ⟨Nat.le_of_ble_eq_true rfl, Nat.le_of_ble_eq_true rfl⟩ ⟨Nat.le_of_ble_eq_true rfl, Nat.le_of_ble_eq_true rfl⟩ (fun r_27 ur_27 hr_27 => ?_)
      have hr_27 : r_27 = (v_ahead (vf 3) (vf 2)) := hr_27
      refine g_if_eq (tgt := 39) B dX2_next_34 (by decide) (fun c_28 => ?_) (fun c_28 => ?_)
      · skip
        refine g_iinc B 0 4 [(2, .int 4), (1, .int 2), (0, .ref (ed 0))] dX2_next_39 rfl (by decide) (Nat.le_of_ble_eq_true rfl) rfl ?_
        refine g_goto (tgt := 4) B dX2_next_42 (by decide) ?_
        refine g_iload_n B 2 0 dX2_next_4 rfl rfl ?_
        refine g_iconst (v := 4) B dX2_next_5 kc_4 ?_
        refine g_icmp_ge_T (tgt := 45) B dX2_next_6 (by decide) (by decide) ?_
        refine g_iload_n B 1 1 dX2_next_45 rfl rfl ?_
        subst hr_3
        subst hr_19
        subst hr_27
        exact g_iret B hr dX2_next_46 (Nat.le_of_ble_eq_true rfl) (Nat.le_of_ble_eq_true rfl) () (by first | (simp only [v_nx, v_n2, v_n1, if_neg c_4, if_neg c_20, if_pos c_28]; done) | (simp only [v_nx, v_n2, v_n1, if_neg c_4, if_neg c_20, if_pos c_28]; rfl) | rfl) [0, 1, 2, 3, 4, 5, 6] rfl rfl
      · skip
        refine g_iload_n B 2 0 dX2_next_37 rfl rfl ?_
        refine g_istore_n B 1 [(1, .int 3), (2, .int 3), (0, .ref (ed 0))] dX2_next_38 rfl (Nat.le_of_ble_eq_true rfl) rfl ?_
        refine g_iinc B 1 4 [(2, .int 4), (1, .int 3), (0, .ref (ed 0))] dX2_next_39 rfl (by decide) (Nat.le_of_ble_eq_true rfl) rfl ?_
        refine g_goto (tgt := 4) B dX2_next_42 (by decide) ?_
        refine g_iload_n B 2 0 dX2_next_4 rfl rfl ?_
        refine g_iconst (v := 4) B dX2_next_5 kc_4 ?_
        refine g_icmp_ge_T (tgt := 45) B dX2_next_6 (by decide) (by decide) ?_
        refine g_iload_n B 1 1 dX2_next_45 rfl rfl ?_
        subst hr_3
        subst hr_19
        subst hr_27
        exact g_iret B hr dX2_next_46 (Nat.le_of_ble_eq_true rfl) (Nat.le_of_ble_eq_true rfl) () (by first | (simp only [v_nx, v_n2, v_n1, if_neg c_4, if_neg c_20, if_neg c_28]; done) | (simp only [v_nx, v_n2, v_n1, if_neg c_4, if_neg c_20, if_neg c_28]; rfl) | rfl) [0, 1, 2, 3, 4, 5, 6] rfl rfl
