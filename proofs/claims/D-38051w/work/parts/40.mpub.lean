/-! contracts: the reference, small public methods -/
set_option maxRecDepth 100000
theorem kb_31 : (Int8.ofInt 31).toInt32 = 31 := by decide
theorem nsX6_isInstrument : yX6_isInstrument.cls ≠ "java/lang/invoke/MethodHandle" ∧ yX6_isInstrument.cls ≠ "java/lang/invoke/VarHandle" ∧ (parseMethodDescriptor yX6_isInstrument.desc).map (fun d => d.parameters.length) = some 1 := by decide +kernel
theorem nsX6_isVoice : yX6_isVoice.cls ≠ "java/lang/invoke/MethodHandle" ∧ yX6_isVoice.cls ≠ "java/lang/invoke/VarHandle" ∧ (parseMethodDescriptor yX6_isVoice.desc).map (fun d => d.parameters.length) = some 1 := by decide +kernel
theorem nsX6_isWave : yX6_isWave.cls ≠ "java/lang/invoke/MethodHandle" ∧ yX6_isWave.cls ≠ "java/lang/invoke/VarHandle" ∧ (parseMethodDescriptor yX6_isWave.desc).map (fun d => d.parameters.length) = some 1 := by decide +kernel
theorem nvX6_no : yX6_no.cls = RX6 ∧ yX6_no.cls ≠ "java/lang/invoke/MethodHandle" ∧ yX6_no.cls ≠ "java/lang/invoke/VarHandle" ∧ (parseMethodDescriptor yX6_no.desc).map (fun d => d.parameters.length) = some 1 := by decide +kernel
theorem nvX6_put : yX6_put.cls = RX6 ∧ yX6_put.cls ≠ "java/lang/invoke/MethodHandle" ∧ yX6_put.cls ≠ "java/lang/invoke/VarHandle" ∧ (parseMethodDescriptor yX6_put.desc).map (fun d => d.parameters.length) = some 4 := by decide +kernel
theorem nvX7_sounding : yX7_sounding.cls = RX7 ∧ yX7_sounding.cls ≠ "java/lang/invoke/MethodHandle" ∧ yX7_sounding.cls ≠ "java/lang/invoke/VarHandle" ∧ (parseMethodDescriptor yX7_sounding.desc).map (fun d => d.parameters.length) = some 0 := by decide +kernel
set_option maxHeartbeats 4000000 in
set_option maxRecDepth 100000 in
theorem m_X6_no (l : Launch) (hst : l.stackTraces = false) (g : gG) (mo : Nat) (th : Nat → Int32) (dd : Nat → Nat) (di : Nat → Int32) (sm : Int64) (k : Int32) : gMi l yX6_no cX6_no 2 .int 0 0 0 0 g [(mo, cO (dd 0) th)] [.ref mo, .int k] (fun (r : Int32) (_ : Unit) => r = 0) (fun _ : Unit => [(mo, cO (dd 0) (upd th 0 k))]) := by
  intro sz
  refine g_ent (by decide) hst [(0, .ref mo), (1, .int k)] (Nat.le_of_ble_eq_true rfl) rfl ?_
  intro p e s m below meth c B hr hnm hsz
  have B : gB p l s m ([.ref mo, .int k] : List Value).toArray meth c RX6 cX6_no 2 g (va_A [(mo, cO (dd 0) th)] sz) := B
  refine g_aload_n B 0 0 dX6_no_0 rfl rfl ?_
  refine g_iload_n B 1 1 dX6_no_1 rfl rfl ?_
  refine g_put (C := RX6) (T := TX6) (N := 2) (ty := .int) (v := .int k) B 5 0 0 [(mo, cO (dd 0) (upd th 0 k))] in_X6 tyX6 tyX6_ok nmX6 rfl q1048 rfl (Nat.le_of_ble_eq_true rfl) (fun _ h9 => h9) rfl rfl rfl rfl (Nat.le_of_ble_eq_true rfl) rfl dX6_no_2 ?_
  refine g_iconst (v := 0) B dX6_no_5 kc_0 ?_
  exact g_iret B hr dX6_no_6 (Nat.le_of_ble_eq_true rfl) (Nat.le_of_ble_eq_true rfl) () rfl [0] rfl rfl

set_option maxHeartbeats 4000000 in
set_option maxRecDepth 100000 in
theorem m_X6_ok (l : Launch) (hst : l.stackTraces = false) (g : gG) (mo : Nat) (th : Nat → Int32) (dd : Nat → Nat) (di : Nat → Int32) (sm : Int64) (k : Int32) : gMi l yX6_ok cX6_ok 2 .int 0 0 0 0 g [(mo, cO (dd 0) th)] [.ref mo, .int k] (fun (r : Int32) (_ : Unit) => r = k) (fun _ : Unit => [(mo, cO (dd 0) (upd th 0 0))]) := by
  intro sz
  refine g_ent (by decide) hst [(0, .ref mo), (1, .int k)] (Nat.le_of_ble_eq_true rfl) rfl ?_
  intro p e s m below meth c B hr hnm hsz
  have B : gB p l s m ([.ref mo, .int k] : List Value).toArray meth c RX6 cX6_ok 2 g (va_A [(mo, cO (dd 0) th)] sz) := B
  refine g_aload_n B 0 0 dX6_ok_0 rfl rfl ?_
  refine g_iconst (v := 0) B dX6_ok_1 kc_0 ?_
  refine g_put (C := RX6) (T := TX6) (N := 2) (ty := .int) (v := .int 0) B 5 0 0 [(mo, cO (dd 0) (upd th 0 0))] in_X6 tyX6 tyX6_ok nmX6 rfl q1048 rfl (Nat.le_of_ble_eq_true rfl) (fun _ h9 => h9) rfl rfl rfl rfl (Nat.le_of_ble_eq_true rfl) rfl dX6_ok_2 ?_
  refine g_iload_n B 1 1 dX6_ok_5 rfl rfl ?_
  exact g_iret B hr dX6_ok_6 (Nat.le_of_ble_eq_true rfl) (Nat.le_of_ble_eq_true rfl) () rfl [0] rfl rfl

set_option maxHeartbeats 4000000 in
set_option maxRecDepth 100000 in
theorem m_X6_isWave (l : Launch) (hst : l.stackTraces = false) (g : gG) (x : Int32) : gMi l yX6_isWave cX6_isWave 1 .boolean 1 22 0 0 g [] [.int x] (fun (r : Int32) (_ : Unit) => r = in_z x 0 3) (fun _ : Unit => []) := by
  intro sz
  refine g_ent (by decide) hst [(0, .int x)] (Nat.le_of_ble_eq_true rfl) rfl ?_
  intro p e s m below meth c B hr hnm hsz
  have B : gB p l s m ([.int x] : List Value).toArray meth c RX6 cX6_isWave 1 g (va_A [] sz) := B
  refine g_iload_n B 0 0 dX6_isWave_0 rfl rfl ?_
  refine g_iconst (v := 0) B dX6_isWave_1 kc_0 ?_
  refine g_iconst (v := 3) B dX6_isWave_2 kc_3 ?_
  refine g_cuS_i (As := [.int x, .int 0, .int 3]) B (m_X6_isIn l hst g x 0 3) [] [] (lw_S q1063 q1064 q38 q1065) nsX6_isIn rfl rfl rfl rfl (Nat.le_of_ble_eq_true rfl) dX6_isWave_3 ⟨Nat.le_of_ble_eq_true rfl, Nat.le_of_ble_eq_true rfl⟩ ⟨Nat.le_of_ble_eq_true rfl, Nat.le_of_ble_eq_true rfl⟩ (fun r_1 ur_1 hr_1 => ?_)
  have hr_1 : r_1 = in_z x 0 3 := hr_1
  subst hr_1
  exact g_zret B hr (zb_n (in_z_01 _ _ _)) dX6_isWave_6 (Nat.le_of_ble_eq_true rfl) (Nat.le_of_ble_eq_true rfl) () rfl [] rfl rfl

set_option maxHeartbeats 4000000 in
set_option maxRecDepth 100000 in
theorem m_X6_isInstrument (l : Launch) (hst : l.stackTraces = false) (g : gG) (x : Int32) : gMi l yX6_isInstrument cX6_isInstrument 1 .boolean 1 22 0 0 g [] [.int x] (fun (r : Int32) (_ : Unit) => r = in_z x 0 3) (fun _ : Unit => []) := by
  intro sz
  refine g_ent (by decide) hst [(0, .int x)] (Nat.le_of_ble_eq_true rfl) rfl ?_
  intro p e s m below meth c B hr hnm hsz
  have B : gB p l s m ([.int x] : List Value).toArray meth c RX6 cX6_isInstrument 1 g (va_A [] sz) := B
  refine g_iload_n B 0 0 dX6_isInstrument_0 rfl rfl ?_
  refine g_iconst (v := 0) B dX6_isInstrument_1 kc_0 ?_
  refine g_iconst (v := 3) B dX6_isInstrument_2 kc_3 ?_
  refine g_cuS_i (As := [.int x, .int 0, .int 3]) B (m_X6_isIn l hst g x 0 3) [] [] (lw_S q1063 q1064 q38 q1065) nsX6_isIn rfl rfl rfl rfl (Nat.le_of_ble_eq_true rfl) dX6_isInstrument_3 ⟨Nat.le_of_ble_eq_true rfl, Nat.le_of_ble_eq_true rfl⟩ ⟨Nat.le_of_ble_eq_true rfl, Nat.le_of_ble_eq_true rfl⟩ (fun r_1 ur_1 hr_1 => ?_)
  have hr_1 : r_1 = in_z x 0 3 := hr_1
  subst hr_1
  exact g_zret B hr (zb_n (in_z_01 _ _ _)) dX6_isInstrument_6 (Nat.le_of_ble_eq_true rfl) (Nat.le_of_ble_eq_true rfl) () rfl [] rfl rfl

set_option maxHeartbeats 4000000 in
set_option maxRecDepth 100000 in
theorem m_X6_isVoice (l : Launch) (hst : l.stackTraces = false) (g : gG) (x : Int32) : gMi l yX6_isVoice cX6_isVoice 1 .boolean 1 22 0 0 g [] [.int x] (fun (r : Int32) (_ : Unit) => r = in_z x 0 3) (fun _ : Unit => []) := by
  intro sz
  refine g_ent (by decide) hst [(0, .int x)] (Nat.le_of_ble_eq_true rfl) rfl ?_
  intro p e s m below meth c B hr hnm hsz
  have B : gB p l s m ([.int x] : List Value).toArray meth c RX6 cX6_isVoice 1 g (va_A [] sz) := B
  refine g_iload_n B 0 0 dX6_isVoice_0 rfl rfl ?_
  refine g_iconst (v := 0) B dX6_isVoice_1 kc_0 ?_
  refine g_iconst (v := 3) B dX6_isVoice_2 kc_3 ?_
  refine g_cuS_i (As := [.int x, .int 0, .int 3]) B (m_X6_isIn l hst g x 0 3) [] [] (lw_S q1063 q1064 q38 q1065) nsX6_isIn rfl rfl rfl rfl (Nat.le_of_ble_eq_true rfl) dX6_isVoice_3 ⟨Nat.le_of_ble_eq_true rfl, Nat.le_of_ble_eq_true rfl⟩ ⟨Nat.le_of_ble_eq_true rfl, Nat.le_of_ble_eq_true rfl⟩ (fun r_1 ur_1 hr_1 => ?_)
  have hr_1 : r_1 = in_z x 0 3 := hr_1
  subst hr_1
  exact g_zret B hr (zb_n (in_z_01 _ _ _)) dX6_isVoice_6 (Nat.le_of_ble_eq_true rfl) (Nat.le_of_ble_eq_true rfl) () rfl [] rfl rfl

set_option maxHeartbeats 4000000 in
set_option maxRecDepth 100000 in
theorem m_X6_isStep (l : Launch) (hst : l.stackTraces = false) (g : gG) (x : Int32) : gMi l yX6_isStep cX6_isStep 1 .boolean 1 22 0 0 g [] [.int x] (fun (r : Int32) (_ : Unit) => r = in_z x 0 7) (fun _ : Unit => []) := by
  intro sz
  refine g_ent (by decide) hst [(0, .int x)] (Nat.le_of_ble_eq_true rfl) rfl ?_
  intro p e s m below meth c B hr hnm hsz
  have B : gB p l s m ([.int x] : List Value).toArray meth c RX6 cX6_isStep 1 g (va_A [] sz) := B
  refine g_iload_n B 0 0 dX6_isStep_0 rfl rfl ?_
  refine g_iconst (v := 0) B dX6_isStep_1 kc_0 ?_
  refine g_bipush (v := 7) B dX6_isStep_2 kb_7 ?_
  refine g_cuS_i (As := [.int x, .int 0, .int 7]) B (m_X6_isIn l hst g x 0 7) [] [] (lw_S q1063 q1064 q38 q1065) nsX6_isIn rfl rfl rfl rfl (Nat.le_of_ble_eq_true rfl) dX6_isStep_4 ⟨Nat.le_of_ble_eq_true rfl, Nat.le_of_ble_eq_true rfl⟩ ⟨Nat.le_of_ble_eq_true rfl, Nat.le_of_ble_eq_true rfl⟩ (fun r_1 ur_1 hr_1 => ?_)
  have hr_1 : r_1 = in_z x 0 7 := hr_1
  subst hr_1
  exact g_zret B hr (zb_n (in_z_01 _ _ _)) dX6_isStep_7 (Nat.le_of_ble_eq_true rfl) (Nat.le_of_ble_eq_true rfl) () rfl [] rfl rfl

set_option maxHeartbeats 4000000 in
set_option maxRecDepth 100000 in
theorem m_X6_draw (l : Launch) (hst : l.stackTraces = false) (g : gG) (mo : Nat) (th : Nat → Int32) (dd : Nat → Nat) (di : Nat → Int32) (sm : Int64) (da : Nat → Nat → Int32) (pl v : Int32) : gMi l yX6_draw cX6_draw 4 .int 1 22 0 0 g [(mo, cO (dd 0) th), ((dd 0), cD dd di sm), ((dd 1), .inl (g.2.1, 32, .inl (da 1)))] [.ref mo, .int pl, .int v] (fun (r : Int32) (_ : Unit) => r = (cn (d_draw pl v) (da 1 pl.toNatClampNeg) 0)) (fun _ : Unit => [(mo, cO (dd 0) (fun _ => (d_draw pl v))), ((dd 0), cD dd di sm), ((dd 1), .inl (g.2.1, 32, .inl (cn (d_draw pl v) (upd (da 1) pl.toNatClampNeg v) (da 1))))]) := by
  intro sz
  refine g_ent (by decide) hst [(0, .ref mo), (1, .int pl), (2, .int v)] (Nat.le_of_ble_eq_true rfl) rfl ?_
  intro p e s m below meth c B hr hnm hsz
  have B : gB p l s m ([.ref mo, .int pl, .int v] : List Value).toArray meth c RX6 cX6_draw 4 g (va_A [(mo, cO (dd 0) th), ((dd 0), cD dd di sm), ((dd 1), .inl (g.2.1, 32, .inl (da 1)))] sz) := B
  refine g_aload_n B 0 0 dX6_draw_0 rfl rfl ?_
  refine g_iconst (v := 0) B dX6_draw_1 kc_0 ?_
  refine g_put (C := RX6) (T := TX6) (N := 2) (ty := .int) (v := .int 0) B 5 0 0 [(mo, cO (dd 0) (upd th 0 0)), ((dd 0), cD dd di sm), ((dd 1), .inl (g.2.1, 32, .inl (da 1)))] in_X6 tyX6 tyX6_ok nmX6 rfl q1048 rfl (Nat.le_of_ble_eq_true rfl) (fun _ h9 => h9) rfl rfl rfl rfl (Nat.le_of_ble_eq_true rfl) rfl dX6_draw_2 ?_
  refine g_iload_n B 1 1 dX6_draw_5 rfl rfl ?_
  refine g_iconst (v := 0) B dX6_draw_6 kc_0 ?_
  refine g_bipush (v := 31) B dX6_draw_7 kb_31 ?_
  refine g_cuS_i (As := [.int pl, .int 0, .int 31]) B (m_X6_isIn l hst g pl 0 31) [] [] (lw_S q1063 q1064 q38 q1065) nsX6_isIn rfl rfl rfl rfl (Nat.le_of_ble_eq_true rfl) dX6_draw_9 ⟨Nat.le_of_ble_eq_true rfl, Nat.le_of_ble_eq_true rfl⟩ ⟨Nat.le_of_ble_eq_true rfl, Nat.le_of_ble_eq_true rfl⟩ (fun r_1 ur_1 hr_1 => ?_)
  have hr_1 : r_1 = in_z pl 0 31 := hr_1
  refine g_if_ne (tgt := 21) B dX6_draw_12 (by decide) (fun c_2 => ?_) (fun c_2 => ?_)
  · skip
    refine g_iload_n B 2 2 dX6_draw_21 rfl rfl ?_
    refine g_sipush (v := (-1000)) B dX6_draw_22 ks_m1000 ?_
    refine g_sipush (v := 1000) B dX6_draw_25 ks_1000 ?_
    refine g_cuS_i (As := [.int v, .int (-1000), .int 1000]) B (m_X6_isIn l hst g v (-1000) 1000) [] [] (lw_S q1063 q1064 q38 q1065) nsX6_isIn rfl rfl rfl rfl (Nat.le_of_ble_eq_true rfl) dX6_draw_28 ⟨Nat.le_of_ble_eq_true rfl, Nat.le_of_ble_eq_true rfl⟩ ⟨Nat.le_of_ble_eq_true rfl, Nat.le_of_ble_eq_true rfl⟩ (fun r_3 ur_3 hr_3 => ?_)
    have hr_3 : r_3 = in_z v (-1000) 1000 := hr_3
    refine g_if_ne (tgt := 40) B dX6_draw_31 (by decide) (fun c_4 => ?_) (fun c_4 => ?_)
    · skip
      refine g_aload_n B 0 0 dX6_draw_40 rfl rfl ?_
      refine g_get (C := RX6) (T := TX6) (N := 2) B 5 0 1 (.ref (dd 0)) in_X6 rfl q1049 rfl (Nat.le_of_ble_eq_true rfl) (fun _ h9 => h9) rfl dX6_draw_41 ?_
      refine g_get (C := RX7) (T := TX7) (N := 35) B 6 1 0 (.ref (dd 1)) in_X7 rfl q911 rfl (Nat.le_of_ble_eq_true rfl) (fun _ h9 => h9) rfl dX6_draw_44 ?_
      refine g_iload_n B 1 1 dX6_draw_47 rfl rfl ?_
      refine g_iald B 2 pl.toNatClampNeg rfl rfl (iz_in (by rw [← hr_1]; exact c_2) (by decide)) dX6_draw_48 ?_
      refine g_topi (fun x_5 ex_5 => ?_)
      refine g_istore_n B 3 [(3, .int x_5), (0, .ref mo), (1, .int pl), (2, .int v)] dX6_draw_49 rfl (Nat.le_of_ble_eq_true rfl) rfl ?_
      refine g_aload_n B 0 1 dX6_draw_50 rfl rfl ?_
      refine g_get (C := RX6) (T := TX6) (N := 2) B 5 0 1 (.ref (dd 0)) in_X6 rfl q1049 rfl (Nat.le_of_ble_eq_true rfl) (fun _ h9 => h9) rfl dX6_draw_51 ?_
      refine g_get (C := RX7) (T := TX7) (N := 35) B 6 1 0 (.ref (dd 1)) in_X7 rfl q911 rfl (Nat.le_of_ble_eq_true rfl) (fun _ h9 => h9) rfl dX6_draw_54 ?_
      refine g_iload_n B 1 2 dX6_draw_57 rfl rfl ?_
      refine g_iload_n B 2 3 dX6_draw_58 rfl rfl ?_
      refine g_iast B 2 pl.toNatClampNeg [(mo, cO (dd 0) (upd th 0 0)), ((dd 0), cD dd di sm), ((dd 1), .inl (g.2.1, 32, .inl (upd (da 1) pl.toNatClampNeg v)))] rfl rfl (iz_in (by rw [← hr_1]; exact c_2) (by decide)) rfl dX6_draw_59 ?_
      refine g_iload_n B 3 0 dX6_draw_60 rfl rfl ?_
      subst hr_1
      subst hr_3
      subst ex_5
      exact g_iret B hr dX6_draw_61 (Nat.le_of_ble_eq_true rfl) (Nat.le_of_ble_eq_true rfl) () (by first | (simp only [cn, d_draw, if_neg c_2, if_neg c_4]; done) | (simp only [cn, d_draw, if_neg c_2, if_neg c_4]; rfl) | rfl) [0, 1, 2] rfl (by first | (simp only [cn, d_draw, if_neg c_2, if_neg c_4]; rfl) | rfl)
    · skip
      refine g_aload_n B 0 0 dX6_draw_34 rfl rfl ?_
      refine g_iconst (v := 2) B dX6_draw_35 kc_2 ?_
      refine g_cV_i (C := RX6) (T := TX6) (N := 2) (As := [.int 2]) B (m_X6_no l hst g mo (upd th 0 0) dd di sm 2) 5 0 rfl rfl [0] [] (lw_V q1066 q1068 qs15 q38 q1069) nvX6_no rfl rfl (fun _ => rfl) rfl rfl (Nat.le_of_ble_eq_true rfl) dX6_draw_36 ⟨Nat.le_of_ble_eq_true rfl, Nat.le_of_ble_eq_true rfl⟩ ⟨Nat.le_of_ble_eq_true rfl, Nat.le_of_ble_eq_true rfl⟩ (fun r_6 ur_6 hr_6 => ?_)
      refine g_eqw (ws' := [(mo, cO (dd 0) (upd (upd th 0 0) 0 2)), ((dd 0), cD dd di sm), ((dd 1), .inl (g.2.1, 32, .inl (da 1)))]) rfl ?_
      have hr_6 : r_6 = 0 := hr_6
      subst hr_1
      subst hr_3
      subst hr_6
      exact g_iret B hr dX6_draw_39 (Nat.le_of_ble_eq_true rfl) (Nat.le_of_ble_eq_true rfl) () (by first | (simp only [cn, d_draw, if_neg c_2, if_pos c_4]; done) | (simp only [cn, d_draw, if_neg c_2, if_pos c_4]; rfl) | rfl) [0, 1, 2] rfl (by first | (simp only [cn, d_draw, if_neg c_2, if_pos c_4]; rfl) | rfl)
  · skip
    refine g_aload_n B 0 0 dX6_draw_15 rfl rfl ?_
    refine g_iconst (v := 1) B dX6_draw_16 kc_1 ?_
    refine g_cV_i (C := RX6) (T := TX6) (N := 2) (As := [.int 1]) B (m_X6_no l hst g mo (upd th 0 0) dd di sm 1) 5 0 rfl rfl [0] [] (lw_V q1066 q1068 qs15 q38 q1069) nvX6_no rfl rfl (fun _ => rfl) rfl rfl (Nat.le_of_ble_eq_true rfl) dX6_draw_17 ⟨Nat.le_of_ble_eq_true rfl, Nat.le_of_ble_eq_true rfl⟩ ⟨Nat.le_of_ble_eq_true rfl, Nat.le_of_ble_eq_true rfl⟩ (fun r_7 ur_7 hr_7 => ?_)
    refine g_eqw (ws' := [(mo, cO (dd 0) (upd (upd th 0 0) 0 1)), ((dd 0), cD dd di sm), ((dd 1), .inl (g.2.1, 32, .inl (da 1)))]) rfl ?_
    have hr_7 : r_7 = 0 := hr_7
    subst hr_1
    subst hr_7
    exact g_iret B hr dX6_draw_20 (Nat.le_of_ble_eq_true rfl) (Nat.le_of_ble_eq_true rfl) () (by first | (simp only [cn, d_draw, if_pos c_2]; done) | (simp only [cn, d_draw, if_pos c_2]; rfl) | rfl) [0, 1, 2] rfl (by first | (simp only [cn, d_draw, if_pos c_2]; rfl) | rfl)

set_option maxHeartbeats 4000000 in
set_option maxRecDepth 100000 in
theorem m_X6_wave (l : Launch) (hst : l.stackTraces = false) (g : gG) (mo : Nat) (th : Nat → Int32) (dd : Nat → Nat) (di : Nat → Int32) (sm : Int64) (da : Nat → Nat → Int32) (wa ph : Int32) : gMi l yX6_wave cX6_wave 3 .int 2 47 0 0 g [(mo, cO (dd 0) th), ((dd 0), cD dd di sm), ((dd 1), .inl (g.2.1, 32, .inl (da 1)))] [.ref mo, .int wa, .int ph] (fun (r : Int32) (_ : Unit) => r = (cn (d_wave wa ph) (pwav (da 1) wa ph) 0)) (fun _ : Unit => [(mo, cO (dd 0) (fun _ => (d_wave wa ph))), ((dd 0), cD dd di sm), ((dd 1), .inl (g.2.1, 32, .inl (da 1)))]) := by
  intro sz
  refine g_ent (by decide) hst [(0, .ref mo), (1, .int wa), (2, .int ph)] (Nat.le_of_ble_eq_true rfl) rfl ?_
  intro p e s m below meth c B hr hnm hsz
  have B : gB p l s m ([.ref mo, .int wa, .int ph] : List Value).toArray meth c RX6 cX6_wave 3 g (va_A [(mo, cO (dd 0) th), ((dd 0), cD dd di sm), ((dd 1), .inl (g.2.1, 32, .inl (da 1)))] sz) := B
  refine g_aload_n B 0 0 dX6_wave_0 rfl rfl ?_
  refine g_iconst (v := 0) B dX6_wave_1 kc_0 ?_
  refine g_put (C := RX6) (T := TX6) (N := 2) (ty := .int) (v := .int 0) B 5 0 0 [(mo, cO (dd 0) (upd th 0 0)), ((dd 0), cD dd di sm), ((dd 1), .inl (g.2.1, 32, .inl (da 1)))] in_X6 tyX6 tyX6_ok nmX6 rfl q1048 rfl (Nat.le_of_ble_eq_true rfl) (fun _ h9 => h9) rfl rfl rfl rfl (Nat.le_of_ble_eq_true rfl) rfl dX6_wave_2 ?_
  refine g_iload_n B 1 1 dX6_wave_5 rfl rfl ?_
  refine g_cuS_i (As := [.int wa]) B (m_X6_isWave l hst g wa) [] [] (lw_S q1074 q1075 q38 q1076) nsX6_isWave rfl rfl rfl rfl (Nat.le_of_ble_eq_true rfl) dX6_wave_6 ⟨Nat.le_of_ble_eq_true rfl, Nat.le_of_ble_eq_true rfl⟩ ⟨Nat.le_of_ble_eq_true rfl, Nat.le_of_ble_eq_true rfl⟩ (fun r_1 ur_1 hr_1 => ?_)
  have hr_1 : r_1 = in_z wa 0 3 := hr_1
  refine g_if_ne (tgt := 18) B dX6_wave_9 (by decide) (fun c_2 => ?_) (fun c_2 => ?_)
  · skip
    refine g_iload_n B 2 2 dX6_wave_18 rfl rfl ?_
    refine g_iconst (v := 0) B dX6_wave_19 kc_0 ?_
    refine g_ldc (v := 65535) B dX6_wave_20 q1077 ?_
    refine g_cuS_i (As := [.int ph, .int 0, .int 65535]) B (m_X6_isIn l hst g ph 0 65535) [] [] (lw_S q1063 q1064 q38 q1065) nsX6_isIn rfl rfl rfl rfl (Nat.le_of_ble_eq_true rfl) dX6_wave_22 ⟨Nat.le_of_ble_eq_true rfl, Nat.le_of_ble_eq_true rfl⟩ ⟨Nat.le_of_ble_eq_true rfl, Nat.le_of_ble_eq_true rfl⟩ (fun r_3 ur_3 hr_3 => ?_)
    have hr_3 : r_3 = in_z ph 0 65535 := hr_3
    refine g_if_eq (tgt := 40) B dX6_wave_25 (by decide) (fun c_4 => ?_) (fun c_4 => ?_)
    · skip
      refine g_aload_n B 0 0 dX6_wave_40 rfl rfl ?_
      refine g_iconst (v := 2) B dX6_wave_41 kc_2 ?_
      refine g_cV_i (C := RX6) (T := TX6) (N := 2) (As := [.int 2]) B (m_X6_no l hst g mo (upd th 0 0) dd di sm 2) 5 0 rfl rfl [0] [] (lw_V q1066 q1068 qs15 q38 q1069) nvX6_no rfl rfl (fun _ => rfl) rfl rfl (Nat.le_of_ble_eq_true rfl) dX6_wave_42 ⟨Nat.le_of_ble_eq_true rfl, Nat.le_of_ble_eq_true rfl⟩ ⟨Nat.le_of_ble_eq_true rfl, Nat.le_of_ble_eq_true rfl⟩ (fun r_5 ur_5 hr_5 => ?_)
      refine g_eqw (ws' := [(mo, cO (dd 0) (upd (upd th 0 0) 0 2)), ((dd 0), cD dd di sm), ((dd 1), .inl (g.2.1, 32, .inl (da 1)))]) rfl ?_
      have hr_5 : r_5 = 0 := hr_5
      subst hr_1
      subst hr_3
      subst hr_5
      exact g_iret B hr dX6_wave_45 (Nat.le_of_ble_eq_true rfl) (Nat.le_of_ble_eq_true rfl) () (by first | (simp only [cn, d_wave, if_neg c_2, if_pos c_4]; done) | (simp only [cn, d_wave, if_neg c_2, if_pos c_4]; rfl) | rfl) [0, 1, 2] rfl (by first | (simp only [cn, d_wave, if_neg c_2, if_pos c_4]; rfl) | rfl)
    · skip
      refine g_aload_n B 0 0 dX6_wave_28 rfl rfl ?_
      refine g_get (C := RX6) (T := TX6) (N := 2) B 5 0 1 (.ref (dd 0)) in_X6 rfl q1049 rfl (Nat.le_of_ble_eq_true rfl) (fun _ h9 => h9) rfl dX6_wave_29 ?_
      refine g_iload_n B 1 1 dX6_wave_32 rfl rfl ?_
      refine g_iload_n B 2 2 dX6_wave_33 rfl rfl ?_
      refine g_cuV_i (C := RX7) (T := TX7) (N := 35) (As := [.int wa, .int ph]) B (m_X7_wave l hst g dd di sm (da 1) wa ph (iz_in (by rw [← hr_3]; exact c_4) (by decide))) 6 0 rfl rfl [1, 2] [] (lw_V q1078 q1079 q1080 q39 q1081) nvX7_wave rfl rfl rfl rfl (Nat.le_of_ble_eq_true rfl) dX6_wave_34 ⟨Nat.le_of_ble_eq_true rfl, Nat.le_of_ble_eq_true rfl⟩ ⟨Nat.le_of_ble_eq_true rfl, Nat.le_of_ble_eq_true rfl⟩ (fun r_6 ur_6 hr_6 => ?_)
      have hr_6 : r_6 = pwav (da 1) wa ph := hr_6
      refine g_goto (tgt := 45) B dX6_wave_37 (by decide) ?_
      subst hr_1
      subst hr_3
      subst hr_6
      exact g_iret B hr dX6_wave_45 (Nat.le_of_ble_eq_true rfl) (Nat.le_of_ble_eq_true rfl) () (by first | (simp only [cn, d_wave, if_neg c_2, if_neg c_4]; done) | (simp only [cn, d_wave, if_neg c_2, if_neg c_4]; rfl) | rfl) [0, 1, 2] rfl (by first | (simp only [cn, d_wave, if_neg c_2, if_neg c_4]; rfl) | rfl)
  · skip
    refine g_aload_n B 0 0 dX6_wave_12 rfl rfl ?_
    refine g_iconst (v := 1) B dX6_wave_13 kc_1 ?_
    refine g_cV_i (C := RX6) (T := TX6) (N := 2) (As := [.int 1]) B (m_X6_no l hst g mo (upd th 0 0) dd di sm 1) 5 0 rfl rfl [0] [] (lw_V q1066 q1068 qs15 q38 q1069) nvX6_no rfl rfl (fun _ => rfl) rfl rfl (Nat.le_of_ble_eq_true rfl) dX6_wave_14 ⟨Nat.le_of_ble_eq_true rfl, Nat.le_of_ble_eq_true rfl⟩ ⟨Nat.le_of_ble_eq_true rfl, Nat.le_of_ble_eq_true rfl⟩ (fun r_7 ur_7 hr_7 => ?_)
    refine g_eqw (ws' := [(mo, cO (dd 0) (upd (upd th 0 0) 0 1)), ((dd 0), cD dd di sm), ((dd 1), .inl (g.2.1, 32, .inl (da 1)))]) rfl ?_
    have hr_7 : r_7 = 0 := hr_7
    subst hr_1
    subst hr_7
    exact g_iret B hr dX6_wave_17 (Nat.le_of_ble_eq_true rfl) (Nat.le_of_ble_eq_true rfl) () (by first | (simp only [cn, d_wave, if_pos c_2]; done) | (simp only [cn, d_wave, if_pos c_2]; rfl) | rfl) [0, 1, 2] rfl (by first | (simp only [cn, d_wave, if_pos c_2]; rfl) | rfl)

set_option maxHeartbeats 4000000 in
set_option maxRecDepth 100000 in
theorem m_X6_stride (l : Launch) (hst : l.stackTraces = false) (g : gG) (mo : Nat) (th : Nat → Int32) (dd : Nat → Nat) (di : Nat → Int32) (sm : Int64) (pi : Int32) : gMi l yX6_stride cX6_stride 2 .int 1 22 1 12 g [(mo, cO (dd 0) th), ((dd 0), cD dd di sm)] [.ref mo, .int pi] (fun (r : Int32) (_ : Unit) => r = (cn (d_stride pi) (pstr pi) 0)) (fun _ : Unit => [(mo, cO (dd 0) (fun _ => (d_stride pi))), ((dd 0), cD dd di sm)]) := by
  intro sz
  refine g_ent (by decide) hst [(0, .ref mo), (1, .int pi)] (Nat.le_of_ble_eq_true rfl) rfl ?_
  intro p e s m below meth c B hr hnm hsz
  have B : gB p l s m ([.ref mo, .int pi] : List Value).toArray meth c RX6 cX6_stride 2 g (va_A [(mo, cO (dd 0) th), ((dd 0), cD dd di sm)] sz) := B
  refine g_aload_n B 0 0 dX6_stride_0 rfl rfl ?_
  refine g_iconst (v := 0) B dX6_stride_1 kc_0 ?_
  refine g_put (C := RX6) (T := TX6) (N := 2) (ty := .int) (v := .int 0) B 5 0 0 [(mo, cO (dd 0) (upd th 0 0)), ((dd 0), cD dd di sm)] in_X6 tyX6 tyX6_ok nmX6 rfl q1048 rfl (Nat.le_of_ble_eq_true rfl) (fun _ h9 => h9) rfl rfl rfl rfl (Nat.le_of_ble_eq_true rfl) rfl dX6_stride_2 ?_
  refine g_iload_n B 1 1 dX6_stride_5 rfl rfl ?_
  refine g_iconst (v := 0) B dX6_stride_6 kc_0 ?_
  refine g_bipush (v := 47) B dX6_stride_7 kb_47 ?_
  refine g_cuS_i (As := [.int pi, .int 0, .int 47]) B (m_X6_isIn l hst g pi 0 47) [] [] (lw_S q1063 q1064 q38 q1065) nsX6_isIn rfl rfl rfl rfl (Nat.le_of_ble_eq_true rfl) dX6_stride_9 ⟨Nat.le_of_ble_eq_true rfl, Nat.le_of_ble_eq_true rfl⟩ ⟨Nat.le_of_ble_eq_true rfl, Nat.le_of_ble_eq_true rfl⟩ (fun r_1 ur_1 hr_1 => ?_)
  have hr_1 : r_1 = in_z pi 0 47 := hr_1
  refine g_if_eq (tgt := 22) B dX6_stride_12 (by decide) (fun c_2 => ?_) (fun c_2 => ?_)
  · skip
    refine g_aload_n B 0 0 dX6_stride_22 rfl rfl ?_
    refine g_iconst (v := 1) B dX6_stride_23 kc_1 ?_
    refine g_cV_i (C := RX6) (T := TX6) (N := 2) (As := [.int 1]) B (m_X6_no l hst g mo (upd th 0 0) dd di sm 1) 5 0 rfl rfl [0] [] (lw_V q1066 q1068 qs15 q38 q1069) nvX6_no rfl rfl (fun _ => rfl) rfl rfl (Nat.le_of_ble_eq_true rfl) dX6_stride_24 ⟨Nat.le_of_ble_eq_true rfl, Nat.le_of_ble_eq_true rfl⟩ ⟨Nat.le_of_ble_eq_true rfl, Nat.le_of_ble_eq_true rfl⟩ (fun r_3 ur_3 hr_3 => ?_)
    refine g_eqw (ws' := [(mo, cO (dd 0) (upd (upd th 0 0) 0 1)), ((dd 0), cD dd di sm)]) rfl ?_
    have hr_3 : r_3 = 0 := hr_3
    subst hr_1
    subst hr_3
    exact g_iret B hr dX6_stride_27 (Nat.le_of_ble_eq_true rfl) (Nat.le_of_ble_eq_true rfl) () (by first | (simp only [cn, d_stride, if_pos c_2]; done) | (simp only [cn, d_stride, if_pos c_2]; rfl) | rfl) [0, 1] rfl (by first | (simp only [cn, d_stride, if_pos c_2]; rfl) | rfl)
  · skip
    refine g_iload_n B 1 1 dX6_stride_15 rfl rfl ?_
    refine g_cuS_i (As := [.int pi]) B (m_X7_stride l hst g pi (iz_in (by rw [← hr_1]; exact c_2) (by decide))) [] [] (lw_S q1090 q1091 q39 q1092) nsX7_stride rfl rfl rfl rfl (Nat.le_of_ble_eq_true rfl) dX6_stride_16 ⟨Nat.le_of_ble_eq_true rfl, Nat.le_of_ble_eq_true rfl⟩ ⟨Nat.le_of_ble_eq_true rfl, Nat.le_of_ble_eq_true rfl⟩ (fun r_4 ur_4 hr_4 => ?_)
    have hr_4 : r_4 = pstr pi := hr_4
    refine g_goto (tgt := 27) B dX6_stride_19 (by decide) ?_
    subst hr_1
    subst hr_4
    exact g_iret B hr dX6_stride_27 (Nat.le_of_ble_eq_true rfl) (Nat.le_of_ble_eq_true rfl) () (by first | (simp only [cn, d_stride, if_neg c_2]; done) | (simp only [cn, d_stride, if_neg c_2]; rfl) | rfl) [0, 1] rfl (by first | (simp only [cn, d_stride, if_neg c_2]; rfl) | rfl)

set_option maxHeartbeats 4000000 in
set_option maxRecDepth 100000 in
theorem m_X6_put (l : Launch) (hst : l.stackTraces = false) (g : gG) (mo : Nat) (th : Nat → Int32) (dd : Nat → Nat) (di : Nat → Int32) (sm : Int64) (iw f : Nat → Int32) (h1 n : Nat) (i fr to : Int32) (hi : vp_in i 4) (ht : vp_in to 12) (hf : vp_in fr 12) (hn : fr.toNatClampNeg + n ≤ 12) : gMi l yX6_put cX6_put 6 .int 1 64 0 0 g [(mo, cO (dd 0) th), ((dd 0), cD dd di sm), ((dd 2), .inl (g.2.1, 48, .inl iw)), (h1, .inl (g.2.1, n, .inl f))] [.ref mo, .int i, .int fr, .int to, .ref h1] (fun (r : Int32) (_ : Unit) => r = iw (i * 12 + to).toNatClampNeg) (fun _ : Unit => [(mo, cO (dd 0) th), ((dd 0), cD dd di sm), ((dd 2), .inl (g.2.1, 48, .inl (d_put iw f i fr n))), (h1, .inl (g.2.1, n, .inl f))]) := by
  intro sz
  refine g_ent (by decide) hst [(0, .ref mo), (1, .int i), (2, .int fr), (3, .int to), (4, .ref h1)] (Nat.le_of_ble_eq_true rfl) rfl ?_
  intro p e s m below meth c B hr hnm hsz
  have B : gB p l s m ([.ref mo, .int i, .int fr, .int to, .ref h1] : List Value).toArray meth c RX6 cX6_put 6 g (va_A [(mo, cO (dd 0) th), ((dd 0), cD dd di sm), ((dd 2), .inl (g.2.1, 48, .inl iw)), (h1, .inl (g.2.1, n, .inl f))] sz) := B
  refine g_aload_n B 0 0 dX6_put_0 rfl rfl ?_
  refine g_get (C := RX6) (T := TX6) (N := 2) B 5 0 1 (.ref (dd 0)) in_X6 rfl q1049 rfl (Nat.le_of_ble_eq_true rfl) (fun _ h9 => h9) rfl dX6_put_1 ?_
  refine g_get (C := RX7) (T := TX7) (N := 35) B 6 1 1 (.ref (dd 2)) in_X7 rfl q913 rfl (Nat.le_of_ble_eq_true rfl) (fun _ h9 => h9) rfl dX6_put_4 ?_
  refine g_iload_n B 1 1 dX6_put_7 rfl rfl ?_
  refine g_bipush (v := 12) B dX6_put_8 kb_12 ?_
  refine g_imul B dX6_put_10 ?_
  refine g_iload_n B 3 3 dX6_put_11 rfl rfl ?_
  refine g_iadd B dX6_put_12 ?_
  refine g_iald B 2 (((i * 12) + to).toNatClampNeg) rfl rfl (d_q_in hi ht) dX6_put_13 ?_
  refine g_topi (fun x_1 ex_1 => ?_)
  refine g_istore B [(5, .int x_1), (0, .ref mo), (1, .int i), (2, .int fr), (3, .int to), (4, .ref h1)] dX6_put_14 (Nat.le_of_ble_eq_true rfl) rfl ?_
  refine g_aload B 5 dX6_put_16 rfl ?_
  refine g_iconst (v := 0) B dX6_put_18 kc_0 ?_
  refine g_aload_n B 0 1 dX6_put_19 rfl rfl ?_
  refine g_get (C := RX6) (T := TX6) (N := 2) B 5 0 1 (.ref (dd 0)) in_X6 rfl q1049 rfl (Nat.le_of_ble_eq_true rfl) (fun _ h9 => h9) rfl dX6_put_20 ?_
  refine g_get (C := RX7) (T := TX7) (N := 35) B 6 1 1 (.ref (dd 2)) in_X7 rfl q913 rfl (Nat.le_of_ble_eq_true rfl) (fun _ h9 => h9) rfl dX6_put_23 ?_
  refine g_iload_n B 1 2 dX6_put_26 rfl rfl ?_
  refine g_bipush (v := 12) B dX6_put_27 kb_12 ?_
  refine g_imul B dX6_put_29 ?_
  refine g_iload_n B 2 3 dX6_put_30 rfl rfl ?_
  refine g_iadd B dX6_put_31 ?_
  refine g_aload B 5 dX6_put_32 rfl ?_
  refine g_alen B 3 (nI n) rfl rfl dX6_put_34 ?_
  refine g_copyi B 3 2 [(mo, cO (dd 0) th), ((dd 0), cD dd di sm), ((dd 2), .inl (g.2.1, 48, .inl (va_cpy f iw 0 (((i * 12) + fr).toNatClampNeg) n))), (h1, .inl (g.2.1, n, .inl f))] q1104 q255 q254 q35 rfl rfl (by decide) (it_2 hi hf) (nI_pos (by omega)) (by rw [nI_clamp (by omega)]; exact Nat.le_of_eq (Nat.zero_add n)) (by rw [nI_clamp (by omega)]; exact it_3 hi hf hn) (Nat.le_of_ble_eq_true rfl) (by decide) (by rw [nI_clamp (by omega)]; rfl) dX6_put_35 ?_
  refine g_iload B 0 dX6_put_38 rfl ?_
  subst ex_1
  exact g_iret B hr dX6_put_40 (Nat.le_of_ble_eq_true rfl) (Nat.le_of_ble_eq_true rfl) () rfl [0, 1, 2, 3] rfl rfl

set_option maxHeartbeats 4000000 in
set_option maxRecDepth 100000 in
theorem m_X6_setWaves (l : Launch) (hst : l.stackTraces = false) (g : gG) (mo : Nat) (th : Nat → Int32) (dd : Nat → Nat) (di : Nat → Int32) (sm : Int64) (da : Nat → Nat → Int32) (i a b de mx : Int32) : gMi l yX6_setWaves cX6_setWaves 6 .int 2 89 1 4 g [(mo, cO (dd 0) th), ((dd 0), cD dd di sm), ((dd 2), .inl (g.2.1, 48, .inl (da 2)))] [.ref mo, .int i, .int a, .int b, .int de, .int mx] (fun (r : Int32) (_ : Unit) => r = (cn (d_waves i a b de mx) (da 2 (i * 12 + 3).toNatClampNeg) 0)) (fun _ : Unit => [(mo, cO (dd 0) (fun _ => (d_waves i a b de mx))), ((dd 0), cD dd di sm), ((dd 2), .inl (g.2.1, 48, .inl (cn (d_waves i a b de mx) (d_put (da 2) (d_n4 a b de mx) i 0 4) (da 2))))]) := by
  intro sz
  refine g_ent (by decide) hst [(0, .ref mo), (1, .int i), (2, .int a), (3, .int b), (4, .int de), (5, .int mx)] (Nat.le_of_ble_eq_true rfl) rfl ?_
  intro p e s m below meth c B hr hnm hsz
  have B : gB p l s m ([.ref mo, .int i, .int a, .int b, .int de, .int mx] : List Value).toArray meth c RX6 cX6_setWaves 6 g (va_A [(mo, cO (dd 0) th), ((dd 0), cD dd di sm), ((dd 2), .inl (g.2.1, 48, .inl (da 2)))] sz) := B
  refine g_aload_n B 0 0 dX6_setWaves_0 rfl rfl ?_
  refine g_iconst (v := 0) B dX6_setWaves_1 kc_0 ?_
  refine g_put (C := RX6) (T := TX6) (N := 2) (ty := .int) (v := .int 0) B 5 0 0 [(mo, cO (dd 0) (upd th 0 0)), ((dd 0), cD dd di sm), ((dd 2), .inl (g.2.1, 48, .inl (da 2)))] in_X6 tyX6 tyX6_ok nmX6 rfl q1048 rfl (Nat.le_of_ble_eq_true rfl) (fun _ h9 => h9) rfl rfl rfl rfl (Nat.le_of_ble_eq_true rfl) rfl dX6_setWaves_2 ?_
  refine g_iload_n B 1 1 dX6_setWaves_5 rfl rfl ?_
  refine g_cuS_i (As := [.int i]) B (m_X6_isInstrument l hst g i) [] [] (lw_S q1097 q1098 q38 q1099) nsX6_isInstrument rfl rfl rfl rfl (Nat.le_of_ble_eq_true rfl) dX6_setWaves_6 ⟨Nat.le_of_ble_eq_true rfl, Nat.le_of_ble_eq_true rfl⟩ ⟨Nat.le_of_ble_eq_true rfl, Nat.le_of_ble_eq_true rfl⟩ (fun r_1 ur_1 hr_1 => ?_)
  have hr_1 : r_1 = in_z i 0 3 := hr_1
  refine g_if_eq (tgt := 26) B dX6_setWaves_9 (by decide) (fun c_2 => ?_) (fun c_2 => ?_)
  · skip
    refine g_aload_n B 0 0 dX6_setWaves_26 rfl rfl ?_
    refine g_iconst (v := 1) B dX6_setWaves_27 kc_1 ?_
    refine g_cV_i (C := RX6) (T := TX6) (N := 2) (As := [.int 1]) B (m_X6_no l hst g mo (upd th 0 0) dd di sm 1) 5 0 rfl rfl [0] [] (lw_V q1066 q1068 qs15 q38 q1069) nvX6_no rfl rfl (fun _ => rfl) rfl rfl (Nat.le_of_ble_eq_true rfl) dX6_setWaves_28 ⟨Nat.le_of_ble_eq_true rfl, Nat.le_of_ble_eq_true rfl⟩ ⟨Nat.le_of_ble_eq_true rfl, Nat.le_of_ble_eq_true rfl⟩ (fun r_3 ur_3 hr_3 => ?_)
    refine g_eqw (ws' := [(mo, cO (dd 0) (upd (upd th 0 0) 0 1)), ((dd 0), cD dd di sm), ((dd 2), .inl (g.2.1, 48, .inl (da 2)))]) rfl ?_
    have hr_3 : r_3 = 0 := hr_3
    subst hr_1
    subst hr_3
    exact g_iret B hr dX6_setWaves_31 (Nat.le_of_ble_eq_true rfl) (Nat.le_of_ble_eq_true rfl) () (by first | (simp only [cn, d_waves, if_pos c_2]; done) | (simp only [cn, d_waves, if_pos c_2]; rfl) | rfl) [0, 1, 2] rfl (by first | (simp only [cn, d_waves, if_pos c_2]; rfl) | rfl)
  · skip
    refine g_iload_n B 2 2 dX6_setWaves_12 rfl rfl ?_
    refine g_cuS_i (As := [.int a]) B (m_X6_isWave l hst g a) [] [] (lw_S q1074 q1075 q38 q1076) nsX6_isWave rfl rfl rfl rfl (Nat.le_of_ble_eq_true rfl) dX6_setWaves_13 ⟨Nat.le_of_ble_eq_true rfl, Nat.le_of_ble_eq_true rfl⟩ ⟨Nat.le_of_ble_eq_true rfl, Nat.le_of_ble_eq_true rfl⟩ (fun r_4 ur_4 hr_4 => ?_)
    have hr_4 : r_4 = in_z a 0 3 := hr_4
    refine g_if_eq (tgt := 26) B dX6_setWaves_16 (by decide) (fun c_5 => ?_) (fun c_5 => ?_)
    · skip
      refine g_aload_n B 0 0 dX6_setWaves_26 rfl rfl ?_
      refine g_iconst (v := 1) B dX6_setWaves_27 kc_1 ?_
      refine g_cV_i (C := RX6) (T := TX6) (N := 2) (As := [.int 1]) B (m_X6_no l hst g mo (upd th 0 0) dd di sm 1) 5 0 rfl rfl [0] [] (lw_V q1066 q1068 qs15 q38 q1069) nvX6_no rfl rfl (fun _ => rfl) rfl rfl (Nat.le_of_ble_eq_true rfl) dX6_setWaves_28 ⟨Nat.le_of_ble_eq_true rfl, Nat.le_of_ble_eq_true rfl⟩ ⟨Nat.le_of_ble_eq_true rfl, Nat.le_of_ble_eq_true rfl⟩ (fun r_6 ur_6 hr_6 => ?_)
      refine g_eqw (ws' := [(mo, cO (dd 0) (upd (upd th 0 0) 0 1)), ((dd 0), cD dd di sm), ((dd 2), .inl (g.2.1, 48, .inl (da 2)))]) rfl ?_
      have hr_6 : r_6 = 0 := hr_6
      subst hr_1
      subst hr_4
      subst hr_6
      exact g_iret B hr dX6_setWaves_31 (Nat.le_of_ble_eq_true rfl) (Nat.le_of_ble_eq_true rfl) () (by first | (simp only [cn, d_waves, if_neg c_2, if_pos c_5]; done) | (simp only [cn, d_waves, if_neg c_2, if_pos c_5]; rfl) | rfl) [0, 1, 2] rfl (by first | (simp only [cn, d_waves, if_neg c_2, if_pos c_5]; rfl) | rfl)
    · skip
      refine g_iload_n B 3 3 dX6_setWaves_19 rfl rfl ?_
      refine g_cuS_i (As := [.int b]) B (m_X6_isWave l hst g b) [] [] (lw_S q1074 q1075 q38 q1076) nsX6_isWave rfl rfl rfl rfl (Nat.le_of_ble_eq_true rfl) dX6_setWaves_20 ⟨Nat.le_of_ble_eq_true rfl, Nat.le_of_ble_eq_true rfl⟩ ⟨Nat.le_of_ble_eq_true rfl, Nat.le_of_ble_eq_true rfl⟩ (fun r_7 ur_7 hr_7 => ?_)
      have hr_7 : r_7 = in_z b 0 3 := hr_7
      refine g_if_ne (tgt := 32) B dX6_setWaves_23 (by decide) (fun c_8 => ?_) (fun c_8 => ?_)
      · skip
        refine g_iload B 4 dX6_setWaves_32 rfl ?_
        refine g_bipush (v := (-64)) B dX6_setWaves_34 kb_m64 ?_
        refine g_bipush (v := 64) B dX6_setWaves_36 kb_64 ?_
        refine g_cuS_i (As := [.int de, .int (-64), .int 64]) B (m_X6_isIn l hst g de (-64) 64) [] [] (lw_S q1063 q1064 q38 q1065) nsX6_isIn rfl rfl rfl rfl (Nat.le_of_ble_eq_true rfl) dX6_setWaves_38 ⟨Nat.le_of_ble_eq_true rfl, Nat.le_of_ble_eq_true rfl⟩ ⟨Nat.le_of_ble_eq_true rfl, Nat.le_of_ble_eq_true rfl⟩ (fun r_9 ur_9 hr_9 => ?_)
        have hr_9 : r_9 = in_z de (-64) 64 := hr_9
        refine g_if_eq (tgt := 86) B dX6_setWaves_41 (by decide) (fun c_10 => ?_) (fun c_10 => ?_)
        · skip
          refine g_aload_n B 0 0 dX6_setWaves_86 rfl rfl ?_
          refine g_iconst (v := 2) B dX6_setWaves_87 kc_2 ?_
          refine g_cV_i (C := RX6) (T := TX6) (N := 2) (As := [.int 2]) B (m_X6_no l hst g mo (upd th 0 0) dd di sm 2) 5 0 rfl rfl [0] [] (lw_V q1066 q1068 qs15 q38 q1069) nvX6_no rfl rfl (fun _ => rfl) rfl rfl (Nat.le_of_ble_eq_true rfl) dX6_setWaves_88 ⟨Nat.le_of_ble_eq_true rfl, Nat.le_of_ble_eq_true rfl⟩ ⟨Nat.le_of_ble_eq_true rfl, Nat.le_of_ble_eq_true rfl⟩ (fun r_11 ur_11 hr_11 => ?_)
          refine g_eqw (ws' := [(mo, cO (dd 0) (upd (upd th 0 0) 0 2)), ((dd 0), cD dd di sm), ((dd 2), .inl (g.2.1, 48, .inl (da 2)))]) rfl ?_
          have hr_11 : r_11 = 0 := hr_11
          subst hr_1
          subst hr_4
          subst hr_7
          subst hr_9
          subst hr_11
          exact g_iret B hr dX6_setWaves_91 (Nat.le_of_ble_eq_true rfl) (Nat.le_of_ble_eq_true rfl) () (by first | (simp only [cn, d_waves, if_neg c_2, if_neg c_5, if_neg c_8, if_pos c_10]; done) | (simp only [cn, d_waves, if_neg c_2, if_neg c_5, if_neg c_8, if_pos c_10]; rfl) | rfl) [0, 1, 2] rfl (by first | (simp only [cn, d_waves, if_neg c_2, if_neg c_5, if_neg c_8, if_pos c_10]; rfl) | rfl)
        · skip
          refine g_iload B 5 dX6_setWaves_44 rfl ?_
          refine g_iconst (v := 0) B dX6_setWaves_46 kc_0 ?_
          refine g_bipush (v := 100) B dX6_setWaves_47 kb_100 ?_
          refine g_cuS_i (As := [.int mx, .int 0, .int 100]) B (m_X6_isIn l hst g mx 0 100) [] [] (lw_S q1063 q1064 q38 q1065) nsX6_isIn rfl rfl rfl rfl (Nat.le_of_ble_eq_true rfl) dX6_setWaves_49 ⟨Nat.le_of_ble_eq_true rfl, Nat.le_of_ble_eq_true rfl⟩ ⟨Nat.le_of_ble_eq_true rfl, Nat.le_of_ble_eq_true rfl⟩ (fun r_12 ur_12 hr_12 => ?_)
          have hr_12 : r_12 = in_z mx 0 100 := hr_12
          refine g_if_eq (tgt := 86) B dX6_setWaves_52 (by decide) (fun c_13 => ?_) (fun c_13 => ?_)
          · skip
            refine g_aload_n B 0 0 dX6_setWaves_86 rfl rfl ?_
            refine g_iconst (v := 2) B dX6_setWaves_87 kc_2 ?_
            refine g_cV_i (C := RX6) (T := TX6) (N := 2) (As := [.int 2]) B (m_X6_no l hst g mo (upd th 0 0) dd di sm 2) 5 0 rfl rfl [0] [] (lw_V q1066 q1068 qs15 q38 q1069) nvX6_no rfl rfl (fun _ => rfl) rfl rfl (Nat.le_of_ble_eq_true rfl) dX6_setWaves_88 ⟨Nat.le_of_ble_eq_true rfl, Nat.le_of_ble_eq_true rfl⟩ ⟨Nat.le_of_ble_eq_true rfl, Nat.le_of_ble_eq_true rfl⟩ (fun r_14 ur_14 hr_14 => ?_)
            refine g_eqw (ws' := [(mo, cO (dd 0) (upd (upd th 0 0) 0 2)), ((dd 0), cD dd di sm), ((dd 2), .inl (g.2.1, 48, .inl (da 2)))]) rfl ?_
            have hr_14 : r_14 = 0 := hr_14
            subst hr_1
            subst hr_4
            subst hr_7
            subst hr_9
            subst hr_12
            subst hr_14
            exact g_iret B hr dX6_setWaves_91 (Nat.le_of_ble_eq_true rfl) (Nat.le_of_ble_eq_true rfl) () (by first | (simp only [cn, d_waves, if_neg c_2, if_neg c_5, if_neg c_8, if_neg c_10, if_pos c_13]; done) | (simp only [cn, d_waves, if_neg c_2, if_neg c_5, if_neg c_8, if_neg c_10, if_pos c_13]; rfl) | rfl) [0, 1, 2] rfl (by first | (simp only [cn, d_waves, if_neg c_2, if_neg c_5, if_neg c_8, if_neg c_10, if_pos c_13]; rfl) | rfl)
          · skip
            refine g_aload_n B 0 0 dX6_setWaves_55 rfl rfl ?_
            refine g_iload_n B 1 1 dX6_setWaves_56 rfl rfl ?_
            refine g_iconst (v := 0) B dX6_setWaves_57 kc_0 ?_
            refine g_iconst (v := 3) B dX6_setWaves_58 kc_3 ?_
            refine g_iconst (v := 4) B dX6_setWaves_59 kc_4 ?_
            refine g_newa B 4 q83 (by decide) (by decide) (Nat.le_of_ble_eq_true rfl) (Nat.le_of_ble_eq_true rfl) (Nat.le_of_ble_eq_true rfl) dX6_setWaves_60 (fun a_15 => ?_)
            refine g_dup B dX6_setWaves_62 rfl ?_
            refine g_iconst (v := 0) B dX6_setWaves_63 kc_0 ?_
            refine g_iload_n B 2 2 dX6_setWaves_64 rfl rfl ?_
            refine g_iast B 3 0 [(mo, cO (dd 0) (upd th 0 0)), ((dd 0), cD dd di sm), ((dd 2), .inl (g.2.1, 48, .inl (da 2))), (a_15, .inl (g.2.1, 4, .inl (upd (fun _ => 0) 0 a)))] rfl (by decide) (vpc rfl) rfl dX6_setWaves_65 ?_
            refine g_dup B dX6_setWaves_66 rfl ?_
            refine g_iconst (v := 1) B dX6_setWaves_67 kc_1 ?_
            refine g_iload_n B 3 3 dX6_setWaves_68 rfl rfl ?_
            refine g_iast B 3 1 [(mo, cO (dd 0) (upd th 0 0)), ((dd 0), cD dd di sm), ((dd 2), .inl (g.2.1, 48, .inl (da 2))), (a_15, .inl (g.2.1, 4, .inl (upd (upd (fun _ => 0) 0 a) 1 b)))] rfl (by decide) (vpc rfl) rfl dX6_setWaves_69 ?_
            refine g_dup B dX6_setWaves_70 rfl ?_
            refine g_iconst (v := 2) B dX6_setWaves_71 kc_2 ?_
            refine g_iload B 4 dX6_setWaves_72 rfl ?_
            refine g_iast B 3 2 [(mo, cO (dd 0) (upd th 0 0)), ((dd 0), cD dd di sm), ((dd 2), .inl (g.2.1, 48, .inl (da 2))), (a_15, .inl (g.2.1, 4, .inl (upd (upd (upd (fun _ => 0) 0 a) 1 b) 2 de)))] rfl (by decide) (vpc rfl) rfl dX6_setWaves_74 ?_
            refine g_dup B dX6_setWaves_75 rfl ?_
            refine g_iconst (v := 3) B dX6_setWaves_76 kc_3 ?_
            refine g_iload B 5 dX6_setWaves_77 rfl ?_
            refine g_iast B 3 3 [(mo, cO (dd 0) (upd th 0 0)), ((dd 0), cD dd di sm), ((dd 2), .inl (g.2.1, 48, .inl (da 2))), (a_15, .inl (g.2.1, 4, .inl (upd (upd (upd (upd (fun _ => 0) 0 a) 1 b) 2 de) 3 mx)))] rfl (by decide) (vpc rfl) rfl dX6_setWaves_79 ?_
            refine g_cV_i (C := RX6) (T := TX6) (N := 2) (As := [.int i, .int 0, .int 3, .ref a_15]) B (m_X6_put l hst g mo (upd th 0 0) dd di sm (da 2) (upd (upd (upd (upd (fun _ => 0) 0 a) 1 b) 2 de) 3 mx) a_15 4 i 0 3 (iz_in (by rw [← hr_1]; exact c_2) (by decide)) (vpc rfl) (vpc rfl) (by decide)) 5 0 rfl rfl [0, 1, 2, 3] [] (lw_V q1100 q1102 qs17 q38 q1103) nvX6_put rfl rfl (fun _ => rfl) rfl rfl (Nat.le_of_ble_eq_true rfl) dX6_setWaves_80 ⟨Nat.le_of_ble_eq_true rfl, Nat.le_of_ble_eq_true rfl⟩ ⟨Nat.le_of_ble_eq_true rfl, Nat.le_of_ble_eq_true rfl⟩ (fun r_16 ur_16 hr_16 => ?_)
            refine g_eqw (ws' := [(mo, cO (dd 0) (upd th 0 0)), ((dd 0), cD dd di sm), ((dd 2), .inl (g.2.1, 48, .inl (d_put (da 2) (upd (upd (upd (upd (fun _ => 0) 0 a) 1 b) 2 de) 3 mx) i 0 4))), (a_15, .inl (g.2.1, 4, .inl (upd (upd (upd (upd (fun _ => 0) 0 a) 1 b) 2 de) 3 mx)))]) rfl ?_
            have hr_16 : r_16 = (da 2) (i * 12 + 3).toNatClampNeg := hr_16
            refine g_goto (tgt := 91) B dX6_setWaves_83 (by decide) ?_
            subst hr_1
            subst hr_4
            subst hr_7
            subst hr_9
            subst hr_12
            subst hr_16
            exact g_iret B hr dX6_setWaves_91 (Nat.le_of_ble_eq_true rfl) (Nat.le_of_ble_eq_true rfl) () (by first | (simp only [cn, d_waves, if_neg c_2, if_neg c_5, if_neg c_8, if_neg c_10, if_neg c_13]; done) | (simp only [cn, d_waves, if_neg c_2, if_neg c_5, if_neg c_8, if_neg c_10, if_neg c_13]; rfl) | rfl) [0, 1, 2] rfl (by first | (simp only [cn, d_waves, if_neg c_2, if_neg c_5, if_neg c_8, if_neg c_10, if_neg c_13]; rfl) | rfl)
      · skip
        refine g_aload_n B 0 0 dX6_setWaves_26 rfl rfl ?_
        refine g_iconst (v := 1) B dX6_setWaves_27 kc_1 ?_
        refine g_cV_i (C := RX6) (T := TX6) (N := 2) (As := [.int 1]) B (m_X6_no l hst g mo (upd th 0 0) dd di sm 1) 5 0 rfl rfl [0] [] (lw_V q1066 q1068 qs15 q38 q1069) nvX6_no rfl rfl (fun _ => rfl) rfl rfl (Nat.le_of_ble_eq_true rfl) dX6_setWaves_28 ⟨Nat.le_of_ble_eq_true rfl, Nat.le_of_ble_eq_true rfl⟩ ⟨Nat.le_of_ble_eq_true rfl, Nat.le_of_ble_eq_true rfl⟩ (fun r_17 ur_17 hr_17 => ?_)
        refine g_eqw (ws' := [(mo, cO (dd 0) (upd (upd th 0 0) 0 1)), ((dd 0), cD dd di sm), ((dd 2), .inl (g.2.1, 48, .inl (da 2)))]) rfl ?_
        have hr_17 : r_17 = 0 := hr_17
        subst hr_1
        subst hr_4
        subst hr_7
        subst hr_17
        exact g_iret B hr dX6_setWaves_31 (Nat.le_of_ble_eq_true rfl) (Nat.le_of_ble_eq_true rfl) () (by first | (simp only [cn, d_waves, if_neg c_2, if_neg c_5, if_pos c_8]; done) | (simp only [cn, d_waves, if_neg c_2, if_neg c_5, if_pos c_8]; rfl) | rfl) [0, 1, 2] rfl (by first | (simp only [cn, d_waves, if_neg c_2, if_neg c_5, if_pos c_8]; rfl) | rfl)

set_option maxHeartbeats 4000000 in
set_option maxRecDepth 100000 in
theorem m_X6_setEnvelope (l : Launch) (hst : l.stackTraces = false) (g : gG) (mo : Nat) (th : Nat → Int32) (dd : Nat → Nat) (di : Nat → Int32) (sm : Int64) (da : Nat → Nat → Int32) (i a de u re : Int32) : gMi l yX6_setEnvelope cX6_setEnvelope 6 .int 2 89 1 4 g [(mo, cO (dd 0) th), ((dd 0), cD dd di sm), ((dd 2), .inl (g.2.1, 48, .inl (da 2)))] [.ref mo, .int i, .int a, .int de, .int u, .int re] (fun (r : Int32) (_ : Unit) => r = (cn (d_env i a de u re) (da 2 (i * 12 + 6).toNatClampNeg) 0)) (fun _ : Unit => [(mo, cO (dd 0) (fun _ => (d_env i a de u re))), ((dd 0), cD dd di sm), ((dd 2), .inl (g.2.1, 48, .inl (cn (d_env i a de u re) (d_put (da 2) (d_n4 a de u re) i 4 4) (da 2))))]) := by
  intro sz
  refine g_ent (by decide) hst [(0, .ref mo), (1, .int i), (2, .int a), (3, .int de), (4, .int u), (5, .int re)] (Nat.le_of_ble_eq_true rfl) rfl ?_
  intro p e s m below meth c B hr hnm hsz
  have B : gB p l s m ([.ref mo, .int i, .int a, .int de, .int u, .int re] : List Value).toArray meth c RX6 cX6_setEnvelope 6 g (va_A [(mo, cO (dd 0) th), ((dd 0), cD dd di sm), ((dd 2), .inl (g.2.1, 48, .inl (da 2)))] sz) := B
  refine g_aload_n B 0 0 dX6_setEnvelope_0 rfl rfl ?_
  refine g_iconst (v := 0) B dX6_setEnvelope_1 kc_0 ?_
  refine g_put (C := RX6) (T := TX6) (N := 2) (ty := .int) (v := .int 0) B 5 0 0 [(mo, cO (dd 0) (upd th 0 0)), ((dd 0), cD dd di sm), ((dd 2), .inl (g.2.1, 48, .inl (da 2)))] in_X6 tyX6 tyX6_ok nmX6 rfl q1048 rfl (Nat.le_of_ble_eq_true rfl) (fun _ h9 => h9) rfl rfl rfl rfl (Nat.le_of_ble_eq_true rfl) rfl dX6_setEnvelope_2 ?_
  refine g_iload_n B 1 1 dX6_setEnvelope_5 rfl rfl ?_
  refine g_cuS_i (As := [.int i]) B (m_X6_isInstrument l hst g i) [] [] (lw_S q1097 q1098 q38 q1099) nsX6_isInstrument rfl rfl rfl rfl (Nat.le_of_ble_eq_true rfl) dX6_setEnvelope_6 ⟨Nat.le_of_ble_eq_true rfl, Nat.le_of_ble_eq_true rfl⟩ ⟨Nat.le_of_ble_eq_true rfl, Nat.le_of_ble_eq_true rfl⟩ (fun r_1 ur_1 hr_1 => ?_)
  have hr_1 : r_1 = in_z i 0 3 := hr_1
  refine g_if_ne (tgt := 18) B dX6_setEnvelope_9 (by decide) (fun c_2 => ?_) (fun c_2 => ?_)
  · skip
    refine g_iload_n B 2 2 dX6_setEnvelope_18 rfl rfl ?_
    refine g_iconst (v := 1) B dX6_setEnvelope_19 kc_1 ?_
    refine g_sipush (v := 400) B dX6_setEnvelope_20 ks_400 ?_
    refine g_cuS_i (As := [.int a, .int 1, .int 400]) B (m_X6_isIn l hst g a 1 400) [] [] (lw_S q1063 q1064 q38 q1065) nsX6_isIn rfl rfl rfl rfl (Nat.le_of_ble_eq_true rfl) dX6_setEnvelope_23 ⟨Nat.le_of_ble_eq_true rfl, Nat.le_of_ble_eq_true rfl⟩ ⟨Nat.le_of_ble_eq_true rfl, Nat.le_of_ble_eq_true rfl⟩ (fun r_3 ur_3 hr_3 => ?_)
    have hr_3 : r_3 = in_z a 1 400 := hr_3
    refine g_if_eq (tgt := 96) B dX6_setEnvelope_26 (by decide) (fun c_4 => ?_) (fun c_4 => ?_)
    · skip
      refine g_aload_n B 0 0 dX6_setEnvelope_96 rfl rfl ?_
      refine g_iconst (v := 2) B dX6_setEnvelope_97 kc_2 ?_
      refine g_cV_i (C := RX6) (T := TX6) (N := 2) (As := [.int 2]) B (m_X6_no l hst g mo (upd th 0 0) dd di sm 2) 5 0 rfl rfl [0] [] (lw_V q1066 q1068 qs15 q38 q1069) nvX6_no rfl rfl (fun _ => rfl) rfl rfl (Nat.le_of_ble_eq_true rfl) dX6_setEnvelope_98 ⟨Nat.le_of_ble_eq_true rfl, Nat.le_of_ble_eq_true rfl⟩ ⟨Nat.le_of_ble_eq_true rfl, Nat.le_of_ble_eq_true rfl⟩ (fun r_5 ur_5 hr_5 => ?_)
      refine g_eqw (ws' := [(mo, cO (dd 0) (upd (upd th 0 0) 0 2)), ((dd 0), cD dd di sm), ((dd 2), .inl (g.2.1, 48, .inl (da 2)))]) rfl ?_
      have hr_5 : r_5 = 0 := hr_5
      subst hr_1
      subst hr_3
      subst hr_5
      exact g_iret B hr dX6_setEnvelope_101 (Nat.le_of_ble_eq_true rfl) (Nat.le_of_ble_eq_true rfl) () (by first | (simp only [cn, d_env, if_neg c_2, if_pos c_4]; done) | (simp only [cn, d_env, if_neg c_2, if_pos c_4]; rfl) | rfl) [0, 1, 2] rfl (by first | (simp only [cn, d_env, if_neg c_2, if_pos c_4]; rfl) | rfl)
    · skip
      refine g_iload_n B 3 3 dX6_setEnvelope_29 rfl rfl ?_
      refine g_iconst (v := 1) B dX6_setEnvelope_30 kc_1 ?_
      refine g_sipush (v := 400) B dX6_setEnvelope_31 ks_400 ?_
      refine g_cuS_i (As := [.int de, .int 1, .int 400]) B (m_X6_isIn l hst g de 1 400) [] [] (lw_S q1063 q1064 q38 q1065) nsX6_isIn rfl rfl rfl rfl (Nat.le_of_ble_eq_true rfl) dX6_setEnvelope_34 ⟨Nat.le_of_ble_eq_true rfl, Nat.le_of_ble_eq_true rfl⟩ ⟨Nat.le_of_ble_eq_true rfl, Nat.le_of_ble_eq_true rfl⟩ (fun r_6 ur_6 hr_6 => ?_)
      have hr_6 : r_6 = in_z de 1 400 := hr_6
      refine g_if_eq (tgt := 96) B dX6_setEnvelope_37 (by decide) (fun c_7 => ?_) (fun c_7 => ?_)
      · skip
        refine g_aload_n B 0 0 dX6_setEnvelope_96 rfl rfl ?_
        refine g_iconst (v := 2) B dX6_setEnvelope_97 kc_2 ?_
        refine g_cV_i (C := RX6) (T := TX6) (N := 2) (As := [.int 2]) B (m_X6_no l hst g mo (upd th 0 0) dd di sm 2) 5 0 rfl rfl [0] [] (lw_V q1066 q1068 qs15 q38 q1069) nvX6_no rfl rfl (fun _ => rfl) rfl rfl (Nat.le_of_ble_eq_true rfl) dX6_setEnvelope_98 ⟨Nat.le_of_ble_eq_true rfl, Nat.le_of_ble_eq_true rfl⟩ ⟨Nat.le_of_ble_eq_true rfl, Nat.le_of_ble_eq_true rfl⟩ (fun r_8 ur_8 hr_8 => ?_)
        refine g_eqw (ws' := [(mo, cO (dd 0) (upd (upd th 0 0) 0 2)), ((dd 0), cD dd di sm), ((dd 2), .inl (g.2.1, 48, .inl (da 2)))]) rfl ?_
        have hr_8 : r_8 = 0 := hr_8
        subst hr_1
        subst hr_3
        subst hr_6
        subst hr_8
        exact g_iret B hr dX6_setEnvelope_101 (Nat.le_of_ble_eq_true rfl) (Nat.le_of_ble_eq_true rfl) () (by first | (simp only [cn, d_env, if_neg c_2, if_neg c_4, if_pos c_7]; done) | (simp only [cn, d_env, if_neg c_2, if_neg c_4, if_pos c_7]; rfl) | rfl) [0, 1, 2] rfl (by first | (simp only [cn, d_env, if_neg c_2, if_neg c_4, if_pos c_7]; rfl) | rfl)
      · skip
        refine g_iload B 4 dX6_setEnvelope_40 rfl ?_
        refine g_iconst (v := 0) B dX6_setEnvelope_42 kc_0 ?_
        refine g_sipush (v := 1000) B dX6_setEnvelope_43 ks_1000 ?_
        refine g_cuS_i (As := [.int u, .int 0, .int 1000]) B (m_X6_isIn l hst g u 0 1000) [] [] (lw_S q1063 q1064 q38 q1065) nsX6_isIn rfl rfl rfl rfl (Nat.le_of_ble_eq_true rfl) dX6_setEnvelope_46 ⟨Nat.le_of_ble_eq_true rfl, Nat.le_of_ble_eq_true rfl⟩ ⟨Nat.le_of_ble_eq_true rfl, Nat.le_of_ble_eq_true rfl⟩ (fun r_9 ur_9 hr_9 => ?_)
        have hr_9 : r_9 = in_z u 0 1000 := hr_9
        refine g_if_eq (tgt := 96) B dX6_setEnvelope_49 (by decide) (fun c_10 => ?_) (fun c_10 => ?_)
        · skip
          refine g_aload_n B 0 0 dX6_setEnvelope_96 rfl rfl ?_
          refine g_iconst (v := 2) B dX6_setEnvelope_97 kc_2 ?_
          refine g_cV_i (C := RX6) (T := TX6) (N := 2) (As := [.int 2]) B (m_X6_no l hst g mo (upd th 0 0) dd di sm 2) 5 0 rfl rfl [0] [] (lw_V q1066 q1068 qs15 q38 q1069) nvX6_no rfl rfl (fun _ => rfl) rfl rfl (Nat.le_of_ble_eq_true rfl) dX6_setEnvelope_98 ⟨Nat.le_of_ble_eq_true rfl, Nat.le_of_ble_eq_true rfl⟩ ⟨Nat.le_of_ble_eq_true rfl, Nat.le_of_ble_eq_true rfl⟩ (fun r_11 ur_11 hr_11 => ?_)
          refine g_eqw (ws' := [(mo, cO (dd 0) (upd (upd th 0 0) 0 2)), ((dd 0), cD dd di sm), ((dd 2), .inl (g.2.1, 48, .inl (da 2)))]) rfl ?_
          have hr_11 : r_11 = 0 := hr_11
          subst hr_1
          subst hr_3
          subst hr_6
          subst hr_9
          subst hr_11
          exact g_iret B hr dX6_setEnvelope_101 (Nat.le_of_ble_eq_true rfl) (Nat.le_of_ble_eq_true rfl) () (by first | (simp only [cn, d_env, if_neg c_2, if_neg c_4, if_neg c_7, if_pos c_10]; done) | (simp only [cn, d_env, if_neg c_2, if_neg c_4, if_neg c_7, if_pos c_10]; rfl) | rfl) [0, 1, 2] rfl (by first | (simp only [cn, d_env, if_neg c_2, if_neg c_4, if_neg c_7, if_pos c_10]; rfl) | rfl)
        · skip
          refine g_iload B 5 dX6_setEnvelope_52 rfl ?_
          refine g_iconst (v := 1) B dX6_setEnvelope_54 kc_1 ?_
          refine g_sipush (v := 400) B dX6_setEnvelope_55 ks_400 ?_
          refine g_cuS_i (As := [.int re, .int 1, .int 400]) B (m_X6_isIn l hst g re 1 400) [] [] (lw_S q1063 q1064 q38 q1065) nsX6_isIn rfl rfl rfl rfl (Nat.le_of_ble_eq_true rfl) dX6_setEnvelope_58 ⟨Nat.le_of_ble_eq_true rfl, Nat.le_of_ble_eq_true rfl⟩ ⟨Nat.le_of_ble_eq_true rfl, Nat.le_of_ble_eq_true rfl⟩ (fun r_12 ur_12 hr_12 => ?_)
          have hr_12 : r_12 = in_z re 1 400 := hr_12
          refine g_if_eq (tgt := 96) B dX6_setEnvelope_61 (by decide) (fun c_13 => ?_) (fun c_13 => ?_)
          · skip
            refine g_aload_n B 0 0 dX6_setEnvelope_96 rfl rfl ?_
            refine g_iconst (v := 2) B dX6_setEnvelope_97 kc_2 ?_
            refine g_cV_i (C := RX6) (T := TX6) (N := 2) (As := [.int 2]) B (m_X6_no l hst g mo (upd th 0 0) dd di sm 2) 5 0 rfl rfl [0] [] (lw_V q1066 q1068 qs15 q38 q1069) nvX6_no rfl rfl (fun _ => rfl) rfl rfl (Nat.le_of_ble_eq_true rfl) dX6_setEnvelope_98 ⟨Nat.le_of_ble_eq_true rfl, Nat.le_of_ble_eq_true rfl⟩ ⟨Nat.le_of_ble_eq_true rfl, Nat.le_of_ble_eq_true rfl⟩ (fun r_14 ur_14 hr_14 => ?_)
            refine g_eqw (ws' := [(mo, cO (dd 0) (upd (upd th 0 0) 0 2)), ((dd 0), cD dd di sm), ((dd 2), .inl (g.2.1, 48, .inl (da 2)))]) rfl ?_
            have hr_14 : r_14 = 0 := hr_14
            subst hr_1
            subst hr_3
            subst hr_6
            subst hr_9
            subst hr_12
            subst hr_14
            exact g_iret B hr dX6_setEnvelope_101 (Nat.le_of_ble_eq_true rfl) (Nat.le_of_ble_eq_true rfl) () (by first | (simp only [cn, d_env, if_neg c_2, if_neg c_4, if_neg c_7, if_neg c_10, if_pos c_13]; done) | (simp only [cn, d_env, if_neg c_2, if_neg c_4, if_neg c_7, if_neg c_10, if_pos c_13]; rfl) | rfl) [0, 1, 2] rfl (by first | (simp only [cn, d_env, if_neg c_2, if_neg c_4, if_neg c_7, if_neg c_10, if_pos c_13]; rfl) | rfl)
          · skip
            refine g_aload_n B 0 0 dX6_setEnvelope_64 rfl rfl ?_
            refine g_iload_n B 1 1 dX6_setEnvelope_65 rfl rfl ?_
            refine g_iconst (v := 4) B dX6_setEnvelope_66 kc_4 ?_
            refine g_bipush (v := 6) B dX6_setEnvelope_67 kb_6 ?_
            refine g_iconst (v := 4) B dX6_setEnvelope_69 kc_4 ?_
            refine g_newa B 4 q83 (by decide) (by decide) (Nat.le_of_ble_eq_true rfl) (Nat.le_of_ble_eq_true rfl) (Nat.le_of_ble_eq_true rfl) dX6_setEnvelope_70 (fun a_15 => ?_)
            refine g_dup B dX6_setEnvelope_72 rfl ?_
            refine g_iconst (v := 0) B dX6_setEnvelope_73 kc_0 ?_
            refine g_iload_n B 2 2 dX6_setEnvelope_74 rfl rfl ?_
            refine g_iast B 3 0 [(mo, cO (dd 0) (upd th 0 0)), ((dd 0), cD dd di sm), ((dd 2), .inl (g.2.1, 48, .inl (da 2))), (a_15, .inl (g.2.1, 4, .inl (upd (fun _ => 0) 0 a)))] rfl (by decide) (vpc rfl) rfl dX6_setEnvelope_75 ?_
            refine g_dup B dX6_setEnvelope_76 rfl ?_
            refine g_iconst (v := 1) B dX6_setEnvelope_77 kc_1 ?_
            refine g_iload_n B 3 3 dX6_setEnvelope_78 rfl rfl ?_
            refine g_iast B 3 1 [(mo, cO (dd 0) (upd th 0 0)), ((dd 0), cD dd di sm), ((dd 2), .inl (g.2.1, 48, .inl (da 2))), (a_15, .inl (g.2.1, 4, .inl (upd (upd (fun _ => 0) 0 a) 1 de)))] rfl (by decide) (vpc rfl) rfl dX6_setEnvelope_79 ?_
            refine g_dup B dX6_setEnvelope_80 rfl ?_
            refine g_iconst (v := 2) B dX6_setEnvelope_81 kc_2 ?_
            refine g_iload B 4 dX6_setEnvelope_82 rfl ?_
            refine g_iast B 3 2 [(mo, cO (dd 0) (upd th 0 0)), ((dd 0), cD dd di sm), ((dd 2), .inl (g.2.1, 48, .inl (da 2))), (a_15, .inl (g.2.1, 4, .inl (upd (upd (upd (fun _ => 0) 0 a) 1 de) 2 u)))] rfl (by decide) (vpc rfl) rfl dX6_setEnvelope_84 ?_
            refine g_dup B dX6_setEnvelope_85 rfl ?_
            refine g_iconst (v := 3) B dX6_setEnvelope_86 kc_3 ?_
            refine g_iload B 5 dX6_setEnvelope_87 rfl ?_
            refine g_iast B 3 3 [(mo, cO (dd 0) (upd th 0 0)), ((dd 0), cD dd di sm), ((dd 2), .inl (g.2.1, 48, .inl (da 2))), (a_15, .inl (g.2.1, 4, .inl (upd (upd (upd (upd (fun _ => 0) 0 a) 1 de) 2 u) 3 re)))] rfl (by decide) (vpc rfl) rfl dX6_setEnvelope_89 ?_
            refine g_cV_i (C := RX6) (T := TX6) (N := 2) (As := [.int i, .int 4, .int 6, .ref a_15]) B (m_X6_put l hst g mo (upd th 0 0) dd di sm (da 2) (upd (upd (upd (upd (fun _ => 0) 0 a) 1 de) 2 u) 3 re) a_15 4 i 4 6 (iz_in (by rw [← hr_1]; exact c_2) (by decide)) (vpc rfl) (vpc rfl) (by decide)) 5 0 rfl rfl [0, 1, 2, 3] [] (lw_V q1100 q1102 qs17 q38 q1103) nvX6_put rfl rfl (fun _ => rfl) rfl rfl (Nat.le_of_ble_eq_true rfl) dX6_setEnvelope_90 ⟨Nat.le_of_ble_eq_true rfl, Nat.le_of_ble_eq_true rfl⟩ ⟨Nat.le_of_ble_eq_true rfl, Nat.le_of_ble_eq_true rfl⟩ (fun r_16 ur_16 hr_16 => ?_)
            refine g_eqw (ws' := [(mo, cO (dd 0) (upd th 0 0)), ((dd 0), cD dd di sm), ((dd 2), .inl (g.2.1, 48, .inl (d_put (da 2) (upd (upd (upd (upd (fun _ => 0) 0 a) 1 de) 2 u) 3 re) i 4 4))), (a_15, .inl (g.2.1, 4, .inl (upd (upd (upd (upd (fun _ => 0) 0 a) 1 de) 2 u) 3 re)))]) rfl ?_
            have hr_16 : r_16 = (da 2) (i * 12 + 6).toNatClampNeg := hr_16
            refine g_goto (tgt := 101) B dX6_setEnvelope_93 (by decide) ?_
            subst hr_1
            subst hr_3
            subst hr_6
            subst hr_9
            subst hr_12
            subst hr_16
            exact g_iret B hr dX6_setEnvelope_101 (Nat.le_of_ble_eq_true rfl) (Nat.le_of_ble_eq_true rfl) () (by first | (simp only [cn, d_env, if_neg c_2, if_neg c_4, if_neg c_7, if_neg c_10, if_neg c_13]; done) | (simp only [cn, d_env, if_neg c_2, if_neg c_4, if_neg c_7, if_neg c_10, if_neg c_13]; rfl) | rfl) [0, 1, 2] rfl (by first | (simp only [cn, d_env, if_neg c_2, if_neg c_4, if_neg c_7, if_neg c_10, if_neg c_13]; rfl) | rfl)
  · skip
    refine g_aload_n B 0 0 dX6_setEnvelope_12 rfl rfl ?_
    refine g_iconst (v := 1) B dX6_setEnvelope_13 kc_1 ?_
    refine g_cV_i (C := RX6) (T := TX6) (N := 2) (As := [.int 1]) B (m_X6_no l hst g mo (upd th 0 0) dd di sm 1) 5 0 rfl rfl [0] [] (lw_V q1066 q1068 qs15 q38 q1069) nvX6_no rfl rfl (fun _ => rfl) rfl rfl (Nat.le_of_ble_eq_true rfl) dX6_setEnvelope_14 ⟨Nat.le_of_ble_eq_true rfl, Nat.le_of_ble_eq_true rfl⟩ ⟨Nat.le_of_ble_eq_true rfl, Nat.le_of_ble_eq_true rfl⟩ (fun r_17 ur_17 hr_17 => ?_)
    refine g_eqw (ws' := [(mo, cO (dd 0) (upd (upd th 0 0) 0 1)), ((dd 0), cD dd di sm), ((dd 2), .inl (g.2.1, 48, .inl (da 2)))]) rfl ?_
    have hr_17 : r_17 = 0 := hr_17
    subst hr_1
    subst hr_17
    exact g_iret B hr dX6_setEnvelope_17 (Nat.le_of_ble_eq_true rfl) (Nat.le_of_ble_eq_true rfl) () (by first | (simp only [cn, d_env, if_pos c_2]; done) | (simp only [cn, d_env, if_pos c_2]; rfl) | rfl) [0, 1, 2] rfl (by first | (simp only [cn, d_env, if_pos c_2]; rfl) | rfl)

set_option maxHeartbeats 4000000 in
set_option maxRecDepth 100000 in
theorem m_X6_setFilter (l : Launch) (hst : l.stackTraces = false) (g : gG) (mo : Nat) (th : Nat → Int32) (dd : Nat → Nat) (di : Nat → Int32) (sm : Int64) (da : Nat → Nat → Int32) (i cu da_ : Int32) : gMi l yX6_setFilter cX6_setFilter 4 .int 2 89 1 2 g [(mo, cO (dd 0) th), ((dd 0), cD dd di sm), ((dd 2), .inl (g.2.1, 48, .inl (da 2)))] [.ref mo, .int i, .int cu, .int da_] (fun (r : Int32) (_ : Unit) => r = (cn (d_filter i cu da_) (da 2 (i * 12 + 8).toNatClampNeg) 0)) (fun _ : Unit => [(mo, cO (dd 0) (fun _ => (d_filter i cu da_))), ((dd 0), cD dd di sm), ((dd 2), .inl (g.2.1, 48, .inl (cn (d_filter i cu da_) (d_put (da 2) (d_n2 cu da_) i 8 2) (da 2))))]) := by
  intro sz
  refine g_ent (by decide) hst [(0, .ref mo), (1, .int i), (2, .int cu), (3, .int da_)] (Nat.le_of_ble_eq_true rfl) rfl ?_
  intro p e s m below meth c B hr hnm hsz
  have B : gB p l s m ([.ref mo, .int i, .int cu, .int da_] : List Value).toArray meth c RX6 cX6_setFilter 4 g (va_A [(mo, cO (dd 0) th), ((dd 0), cD dd di sm), ((dd 2), .inl (g.2.1, 48, .inl (da 2)))] sz) := B
  refine g_aload_n B 0 0 dX6_setFilter_0 rfl rfl ?_
  refine g_iconst (v := 0) B dX6_setFilter_1 kc_0 ?_
  refine g_put (C := RX6) (T := TX6) (N := 2) (ty := .int) (v := .int 0) B 5 0 0 [(mo, cO (dd 0) (upd th 0 0)), ((dd 0), cD dd di sm), ((dd 2), .inl (g.2.1, 48, .inl (da 2)))] in_X6 tyX6 tyX6_ok nmX6 rfl q1048 rfl (Nat.le_of_ble_eq_true rfl) (fun _ h9 => h9) rfl rfl rfl rfl (Nat.le_of_ble_eq_true rfl) rfl dX6_setFilter_2 ?_
  refine g_iload_n B 1 1 dX6_setFilter_5 rfl rfl ?_
  refine g_cuS_i (As := [.int i]) B (m_X6_isInstrument l hst g i) [] [] (lw_S q1097 q1098 q38 q1099) nsX6_isInstrument rfl rfl rfl rfl (Nat.le_of_ble_eq_true rfl) dX6_setFilter_6 ⟨Nat.le_of_ble_eq_true rfl, Nat.le_of_ble_eq_true rfl⟩ ⟨Nat.le_of_ble_eq_true rfl, Nat.le_of_ble_eq_true rfl⟩ (fun r_1 ur_1 hr_1 => ?_)
  have hr_1 : r_1 = in_z i 0 3 := hr_1
  refine g_if_ne (tgt := 18) B dX6_setFilter_9 (by decide) (fun c_2 => ?_) (fun c_2 => ?_)
  · skip
    refine g_iload_n B 2 2 dX6_setFilter_18 rfl rfl ?_
    refine g_iconst (v := 1) B dX6_setFilter_19 kc_1 ?_
    refine g_sipush (v := 128) B dX6_setFilter_20 ks_128 ?_
    refine g_cuS_i (As := [.int cu, .int 1, .int 128]) B (m_X6_isIn l hst g cu 1 128) [] [] (lw_S q1063 q1064 q38 q1065) nsX6_isIn rfl rfl rfl rfl (Nat.le_of_ble_eq_true rfl) dX6_setFilter_23 ⟨Nat.le_of_ble_eq_true rfl, Nat.le_of_ble_eq_true rfl⟩ ⟨Nat.le_of_ble_eq_true rfl, Nat.le_of_ble_eq_true rfl⟩ (fun r_3 ur_3 hr_3 => ?_)
    have hr_3 : r_3 = in_z cu 1 128 := hr_3
    refine g_if_eq (tgt := 64) B dX6_setFilter_26 (by decide) (fun c_4 => ?_) (fun c_4 => ?_)
    · skip
      refine g_aload_n B 0 0 dX6_setFilter_64 rfl rfl ?_
      refine g_iconst (v := 2) B dX6_setFilter_65 kc_2 ?_
      refine g_cV_i (C := RX6) (T := TX6) (N := 2) (As := [.int 2]) B (m_X6_no l hst g mo (upd th 0 0) dd di sm 2) 5 0 rfl rfl [0] [] (lw_V q1066 q1068 qs15 q38 q1069) nvX6_no rfl rfl (fun _ => rfl) rfl rfl (Nat.le_of_ble_eq_true rfl) dX6_setFilter_66 ⟨Nat.le_of_ble_eq_true rfl, Nat.le_of_ble_eq_true rfl⟩ ⟨Nat.le_of_ble_eq_true rfl, Nat.le_of_ble_eq_true rfl⟩ (fun r_5 ur_5 hr_5 => ?_)
      refine g_eqw (ws' := [(mo, cO (dd 0) (upd (upd th 0 0) 0 2)), ((dd 0), cD dd di sm), ((dd 2), .inl (g.2.1, 48, .inl (da 2)))]) rfl ?_
      have hr_5 : r_5 = 0 := hr_5
      subst hr_1
      subst hr_3
      subst hr_5
      exact g_iret B hr dX6_setFilter_69 (Nat.le_of_ble_eq_true rfl) (Nat.le_of_ble_eq_true rfl) () (by first | (simp only [cn, d_filter, if_neg c_2, if_pos c_4]; done) | (simp only [cn, d_filter, if_neg c_2, if_pos c_4]; rfl) | rfl) [0, 1, 2] rfl (by first | (simp only [cn, d_filter, if_neg c_2, if_pos c_4]; rfl) | rfl)
    · skip
      refine g_iload_n B 3 3 dX6_setFilter_29 rfl rfl ?_
      refine g_bipush (v := 16) B dX6_setFilter_30 kb_16 ?_
      refine g_sipush (v := 256) B dX6_setFilter_32 ks_256 ?_
      refine g_cuS_i (As := [.int da_, .int 16, .int 256]) B (m_X6_isIn l hst g da_ 16 256) [] [] (lw_S q1063 q1064 q38 q1065) nsX6_isIn rfl rfl rfl rfl (Nat.le_of_ble_eq_true rfl) dX6_setFilter_35 ⟨Nat.le_of_ble_eq_true rfl, Nat.le_of_ble_eq_true rfl⟩ ⟨Nat.le_of_ble_eq_true rfl, Nat.le_of_ble_eq_true rfl⟩ (fun r_6 ur_6 hr_6 => ?_)
      have hr_6 : r_6 = in_z da_ 16 256 := hr_6
      refine g_if_eq (tgt := 64) B dX6_setFilter_38 (by decide) (fun c_7 => ?_) (fun c_7 => ?_)
      · skip
        refine g_aload_n B 0 0 dX6_setFilter_64 rfl rfl ?_
        refine g_iconst (v := 2) B dX6_setFilter_65 kc_2 ?_
        refine g_cV_i (C := RX6) (T := TX6) (N := 2) (As := [.int 2]) B (m_X6_no l hst g mo (upd th 0 0) dd di sm 2) 5 0 rfl rfl [0] [] (lw_V q1066 q1068 qs15 q38 q1069) nvX6_no rfl rfl (fun _ => rfl) rfl rfl (Nat.le_of_ble_eq_true rfl) dX6_setFilter_66 ⟨Nat.le_of_ble_eq_true rfl, Nat.le_of_ble_eq_true rfl⟩ ⟨Nat.le_of_ble_eq_true rfl, Nat.le_of_ble_eq_true rfl⟩ (fun r_8 ur_8 hr_8 => ?_)
        refine g_eqw (ws' := [(mo, cO (dd 0) (upd (upd th 0 0) 0 2)), ((dd 0), cD dd di sm), ((dd 2), .inl (g.2.1, 48, .inl (da 2)))]) rfl ?_
        have hr_8 : r_8 = 0 := hr_8
        subst hr_1
        subst hr_3
        subst hr_6
        subst hr_8
        exact g_iret B hr dX6_setFilter_69 (Nat.le_of_ble_eq_true rfl) (Nat.le_of_ble_eq_true rfl) () (by first | (simp only [cn, d_filter, if_neg c_2, if_neg c_4, if_pos c_7]; done) | (simp only [cn, d_filter, if_neg c_2, if_neg c_4, if_pos c_7]; rfl) | rfl) [0, 1, 2] rfl (by first | (simp only [cn, d_filter, if_neg c_2, if_neg c_4, if_pos c_7]; rfl) | rfl)
      · skip
        refine g_aload_n B 0 0 dX6_setFilter_41 rfl rfl ?_
        refine g_iload_n B 1 1 dX6_setFilter_42 rfl rfl ?_
        refine g_bipush (v := 8) B dX6_setFilter_43 kb_8 ?_
        refine g_bipush (v := 8) B dX6_setFilter_45 kb_8 ?_
        refine g_iconst (v := 2) B dX6_setFilter_47 kc_2 ?_
        refine g_newa B 2 q83 (by decide) (by decide) (Nat.le_of_ble_eq_true rfl) (Nat.le_of_ble_eq_true rfl) (Nat.le_of_ble_eq_true rfl) dX6_setFilter_48 (fun a_9 => ?_)
        refine g_dup B dX6_setFilter_50 rfl ?_
        refine g_iconst (v := 0) B dX6_setFilter_51 kc_0 ?_
        refine g_iload_n B 2 2 dX6_setFilter_52 rfl rfl ?_
        refine g_iast B 3 0 [(mo, cO (dd 0) (upd th 0 0)), ((dd 0), cD dd di sm), ((dd 2), .inl (g.2.1, 48, .inl (da 2))), (a_9, .inl (g.2.1, 2, .inl (upd (fun _ => 0) 0 cu)))] rfl (by decide) (vpc rfl) rfl dX6_setFilter_53 ?_
        refine g_dup B dX6_setFilter_54 rfl ?_
        refine g_iconst (v := 1) B dX6_setFilter_55 kc_1 ?_
        refine g_iload_n B 3 3 dX6_setFilter_56 rfl rfl ?_
        refine g_iast B 3 1 [(mo, cO (dd 0) (upd th 0 0)), ((dd 0), cD dd di sm), ((dd 2), .inl (g.2.1, 48, .inl (da 2))), (a_9, .inl (g.2.1, 2, .inl (upd (upd (fun _ => 0) 0 cu) 1 da_)))] rfl (by decide) (vpc rfl) rfl dX6_setFilter_57 ?_
        refine g_cV_i (C := RX6) (T := TX6) (N := 2) (As := [.int i, .int 8, .int 8, .ref a_9]) B (m_X6_put l hst g mo (upd th 0 0) dd di sm (da 2) (upd (upd (fun _ => 0) 0 cu) 1 da_) a_9 2 i 8 8 (iz_in (by rw [← hr_1]; exact c_2) (by decide)) (vpc rfl) (vpc rfl) (by decide)) 5 0 rfl rfl [0, 1, 2, 3] [] (lw_V q1100 q1102 qs17 q38 q1103) nvX6_put rfl rfl (fun _ => rfl) rfl rfl (Nat.le_of_ble_eq_true rfl) dX6_setFilter_58 ⟨Nat.le_of_ble_eq_true rfl, Nat.le_of_ble_eq_true rfl⟩ ⟨Nat.le_of_ble_eq_true rfl, Nat.le_of_ble_eq_true rfl⟩ (fun r_10 ur_10 hr_10 => ?_)
        refine g_eqw (ws' := [(mo, cO (dd 0) (upd th 0 0)), ((dd 0), cD dd di sm), ((dd 2), .inl (g.2.1, 48, .inl (d_put (da 2) (upd (upd (fun _ => 0) 0 cu) 1 da_) i 8 2))), (a_9, .inl (g.2.1, 2, .inl (upd (upd (fun _ => 0) 0 cu) 1 da_)))]) rfl ?_
        have hr_10 : r_10 = (da 2) (i * 12 + 8).toNatClampNeg := hr_10
        refine g_goto (tgt := 69) B dX6_setFilter_61 (by decide) ?_
        subst hr_1
        subst hr_3
        subst hr_6
        subst hr_10
        exact g_iret B hr dX6_setFilter_69 (Nat.le_of_ble_eq_true rfl) (Nat.le_of_ble_eq_true rfl) () (by first | (simp only [cn, d_filter, if_neg c_2, if_neg c_4, if_neg c_7]; done) | (simp only [cn, d_filter, if_neg c_2, if_neg c_4, if_neg c_7]; rfl) | rfl) [0, 1, 2] rfl (by first | (simp only [cn, d_filter, if_neg c_2, if_neg c_4, if_neg c_7]; rfl) | rfl)
  · skip
    refine g_aload_n B 0 0 dX6_setFilter_12 rfl rfl ?_
    refine g_iconst (v := 1) B dX6_setFilter_13 kc_1 ?_
    refine g_cV_i (C := RX6) (T := TX6) (N := 2) (As := [.int 1]) B (m_X6_no l hst g mo (upd th 0 0) dd di sm 1) 5 0 rfl rfl [0] [] (lw_V q1066 q1068 qs15 q38 q1069) nvX6_no rfl rfl (fun _ => rfl) rfl rfl (Nat.le_of_ble_eq_true rfl) dX6_setFilter_14 ⟨Nat.le_of_ble_eq_true rfl, Nat.le_of_ble_eq_true rfl⟩ ⟨Nat.le_of_ble_eq_true rfl, Nat.le_of_ble_eq_true rfl⟩ (fun r_11 ur_11 hr_11 => ?_)
    refine g_eqw (ws' := [(mo, cO (dd 0) (upd (upd th 0 0) 0 1)), ((dd 0), cD dd di sm), ((dd 2), .inl (g.2.1, 48, .inl (da 2)))]) rfl ?_
    have hr_11 : r_11 = 0 := hr_11
    subst hr_1
    subst hr_11
    exact g_iret B hr dX6_setFilter_17 (Nat.le_of_ble_eq_true rfl) (Nat.le_of_ble_eq_true rfl) () (by first | (simp only [cn, d_filter, if_pos c_2]; done) | (simp only [cn, d_filter, if_pos c_2]; rfl) | rfl) [0, 1, 2] rfl (by first | (simp only [cn, d_filter, if_pos c_2]; rfl) | rfl)

set_option maxHeartbeats 4000000 in
set_option maxRecDepth 100000 in
theorem m_X6_setVibrato (l : Launch) (hst : l.stackTraces = false) (g : gG) (mo : Nat) (th : Nat → Int32) (dd : Nat → Nat) (di : Nat → Int32) (sm : Int64) (da : Nat → Nat → Int32) (i de pe : Int32) : gMi l yX6_setVibrato cX6_setVibrato 4 .int 2 89 1 2 g [(mo, cO (dd 0) th), ((dd 0), cD dd di sm), ((dd 2), .inl (g.2.1, 48, .inl (da 2)))] [.ref mo, .int i, .int de, .int pe] (fun (r : Int32) (_ : Unit) => r = (cn (d_vib i de pe) (da 2 (i * 12 + 10).toNatClampNeg) 0)) (fun _ : Unit => [(mo, cO (dd 0) (fun _ => (d_vib i de pe))), ((dd 0), cD dd di sm), ((dd 2), .inl (g.2.1, 48, .inl (cn (d_vib i de pe) (d_put (da 2) (d_n2 de pe) i 10 2) (da 2))))]) := by
  intro sz
  refine g_ent (by decide) hst [(0, .ref mo), (1, .int i), (2, .int de), (3, .int pe)] (Nat.le_of_ble_eq_true rfl) rfl ?_
  intro p e s m below meth c B hr hnm hsz
  have B : gB p l s m ([.ref mo, .int i, .int de, .int pe] : List Value).toArray meth c RX6 cX6_setVibrato 4 g (va_A [(mo, cO (dd 0) th), ((dd 0), cD dd di sm), ((dd 2), .inl (g.2.1, 48, .inl (da 2)))] sz) := B
  refine g_aload_n B 0 0 dX6_setVibrato_0 rfl rfl ?_
  refine g_iconst (v := 0) B dX6_setVibrato_1 kc_0 ?_
  refine g_put (C := RX6) (T := TX6) (N := 2) (ty := .int) (v := .int 0) B 5 0 0 [(mo, cO (dd 0) (upd th 0 0)), ((dd 0), cD dd di sm), ((dd 2), .inl (g.2.1, 48, .inl (da 2)))] in_X6 tyX6 tyX6_ok nmX6 rfl q1048 rfl (Nat.le_of_ble_eq_true rfl) (fun _ h9 => h9) rfl rfl rfl rfl (Nat.le_of_ble_eq_true rfl) rfl dX6_setVibrato_2 ?_
  refine g_iload_n B 1 1 dX6_setVibrato_5 rfl rfl ?_
  refine g_cuS_i (As := [.int i]) B (m_X6_isInstrument l hst g i) [] [] (lw_S q1097 q1098 q38 q1099) nsX6_isInstrument rfl rfl rfl rfl (Nat.le_of_ble_eq_true rfl) dX6_setVibrato_6 ⟨Nat.le_of_ble_eq_true rfl, Nat.le_of_ble_eq_true rfl⟩ ⟨Nat.le_of_ble_eq_true rfl, Nat.le_of_ble_eq_true rfl⟩ (fun r_1 ur_1 hr_1 => ?_)
  have hr_1 : r_1 = in_z i 0 3 := hr_1
  refine g_if_ne (tgt := 18) B dX6_setVibrato_9 (by decide) (fun c_2 => ?_) (fun c_2 => ?_)
  · skip
    refine g_iload_n B 2 2 dX6_setVibrato_18 rfl rfl ?_
    refine g_iconst (v := 0) B dX6_setVibrato_19 kc_0 ?_
    refine g_bipush (v := 64) B dX6_setVibrato_20 kb_64 ?_
    refine g_cuS_i (As := [.int de, .int 0, .int 64]) B (m_X6_isIn l hst g de 0 64) [] [] (lw_S q1063 q1064 q38 q1065) nsX6_isIn rfl rfl rfl rfl (Nat.le_of_ble_eq_true rfl) dX6_setVibrato_22 ⟨Nat.le_of_ble_eq_true rfl, Nat.le_of_ble_eq_true rfl⟩ ⟨Nat.le_of_ble_eq_true rfl, Nat.le_of_ble_eq_true rfl⟩ (fun r_3 ur_3 hr_3 => ?_)
    have hr_3 : r_3 = in_z de 0 64 := hr_3
    refine g_if_eq (tgt := 63) B dX6_setVibrato_25 (by decide) (fun c_4 => ?_) (fun c_4 => ?_)
    · skip
      refine g_aload_n B 0 0 dX6_setVibrato_63 rfl rfl ?_
      refine g_iconst (v := 2) B dX6_setVibrato_64 kc_2 ?_
      refine g_cV_i (C := RX6) (T := TX6) (N := 2) (As := [.int 2]) B (m_X6_no l hst g mo (upd th 0 0) dd di sm 2) 5 0 rfl rfl [0] [] (lw_V q1066 q1068 qs15 q38 q1069) nvX6_no rfl rfl (fun _ => rfl) rfl rfl (Nat.le_of_ble_eq_true rfl) dX6_setVibrato_65 ⟨Nat.le_of_ble_eq_true rfl, Nat.le_of_ble_eq_true rfl⟩ ⟨Nat.le_of_ble_eq_true rfl, Nat.le_of_ble_eq_true rfl⟩ (fun r_5 ur_5 hr_5 => ?_)
      refine g_eqw (ws' := [(mo, cO (dd 0) (upd (upd th 0 0) 0 2)), ((dd 0), cD dd di sm), ((dd 2), .inl (g.2.1, 48, .inl (da 2)))]) rfl ?_
      have hr_5 : r_5 = 0 := hr_5
      subst hr_1
      subst hr_3
      subst hr_5
      exact g_iret B hr dX6_setVibrato_68 (Nat.le_of_ble_eq_true rfl) (Nat.le_of_ble_eq_true rfl) () (by first | (simp only [cn, d_vib, if_neg c_2, if_pos c_4]; done) | (simp only [cn, d_vib, if_neg c_2, if_pos c_4]; rfl) | rfl) [0, 1, 2] rfl (by first | (simp only [cn, d_vib, if_neg c_2, if_pos c_4]; rfl) | rfl)
    · skip
      refine g_iload_n B 3 3 dX6_setVibrato_28 rfl rfl ?_
      refine g_bipush (v := 8) B dX6_setVibrato_29 kb_8 ?_
      refine g_sipush (v := 255) B dX6_setVibrato_31 ks_255 ?_
      refine g_cuS_i (As := [.int pe, .int 8, .int 255]) B (m_X6_isIn l hst g pe 8 255) [] [] (lw_S q1063 q1064 q38 q1065) nsX6_isIn rfl rfl rfl rfl (Nat.le_of_ble_eq_true rfl) dX6_setVibrato_34 ⟨Nat.le_of_ble_eq_true rfl, Nat.le_of_ble_eq_true rfl⟩ ⟨Nat.le_of_ble_eq_true rfl, Nat.le_of_ble_eq_true rfl⟩ (fun r_6 ur_6 hr_6 => ?_)
      have hr_6 : r_6 = in_z pe 8 255 := hr_6
      refine g_if_eq (tgt := 63) B dX6_setVibrato_37 (by decide) (fun c_7 => ?_) (fun c_7 => ?_)
      · skip
        refine g_aload_n B 0 0 dX6_setVibrato_63 rfl rfl ?_
        refine g_iconst (v := 2) B dX6_setVibrato_64 kc_2 ?_
        refine g_cV_i (C := RX6) (T := TX6) (N := 2) (As := [.int 2]) B (m_X6_no l hst g mo (upd th 0 0) dd di sm 2) 5 0 rfl rfl [0] [] (lw_V q1066 q1068 qs15 q38 q1069) nvX6_no rfl rfl (fun _ => rfl) rfl rfl (Nat.le_of_ble_eq_true rfl) dX6_setVibrato_65 ⟨Nat.le_of_ble_eq_true rfl, Nat.le_of_ble_eq_true rfl⟩ ⟨Nat.le_of_ble_eq_true rfl, Nat.le_of_ble_eq_true rfl⟩ (fun r_8 ur_8 hr_8 => ?_)
        refine g_eqw (ws' := [(mo, cO (dd 0) (upd (upd th 0 0) 0 2)), ((dd 0), cD dd di sm), ((dd 2), .inl (g.2.1, 48, .inl (da 2)))]) rfl ?_
        have hr_8 : r_8 = 0 := hr_8
        subst hr_1
        subst hr_3
        subst hr_6
        subst hr_8
        exact g_iret B hr dX6_setVibrato_68 (Nat.le_of_ble_eq_true rfl) (Nat.le_of_ble_eq_true rfl) () (by first | (simp only [cn, d_vib, if_neg c_2, if_neg c_4, if_pos c_7]; done) | (simp only [cn, d_vib, if_neg c_2, if_neg c_4, if_pos c_7]; rfl) | rfl) [0, 1, 2] rfl (by first | (simp only [cn, d_vib, if_neg c_2, if_neg c_4, if_pos c_7]; rfl) | rfl)
      · skip
        refine g_aload_n B 0 0 dX6_setVibrato_40 rfl rfl ?_
        refine g_iload_n B 1 1 dX6_setVibrato_41 rfl rfl ?_
        refine g_bipush (v := 10) B dX6_setVibrato_42 kb_10 ?_
        refine g_bipush (v := 10) B dX6_setVibrato_44 kb_10 ?_
        refine g_iconst (v := 2) B dX6_setVibrato_46 kc_2 ?_
        refine g_newa B 2 q83 (by decide) (by decide) (Nat.le_of_ble_eq_true rfl) (Nat.le_of_ble_eq_true rfl) (Nat.le_of_ble_eq_true rfl) dX6_setVibrato_47 (fun a_9 => ?_)
        refine g_dup B dX6_setVibrato_49 rfl ?_
        refine g_iconst (v := 0) B dX6_setVibrato_50 kc_0 ?_
        refine g_iload_n B 2 2 dX6_setVibrato_51 rfl rfl ?_
        refine g_iast B 3 0 [(mo, cO (dd 0) (upd th 0 0)), ((dd 0), cD dd di sm), ((dd 2), .inl (g.2.1, 48, .inl (da 2))), (a_9, .inl (g.2.1, 2, .inl (upd (fun _ => 0) 0 de)))] rfl (by decide) (vpc rfl) rfl dX6_setVibrato_52 ?_
        refine g_dup B dX6_setVibrato_53 rfl ?_
        refine g_iconst (v := 1) B dX6_setVibrato_54 kc_1 ?_
        refine g_iload_n B 3 3 dX6_setVibrato_55 rfl rfl ?_
        refine g_iast B 3 1 [(mo, cO (dd 0) (upd th 0 0)), ((dd 0), cD dd di sm), ((dd 2), .inl (g.2.1, 48, .inl (da 2))), (a_9, .inl (g.2.1, 2, .inl (upd (upd (fun _ => 0) 0 de) 1 pe)))] rfl (by decide) (vpc rfl) rfl dX6_setVibrato_56 ?_
        refine g_cV_i (C := RX6) (T := TX6) (N := 2) (As := [.int i, .int 10, .int 10, .ref a_9]) B (m_X6_put l hst g mo (upd th 0 0) dd di sm (da 2) (upd (upd (fun _ => 0) 0 de) 1 pe) a_9 2 i 10 10 (iz_in (by rw [← hr_1]; exact c_2) (by decide)) (vpc rfl) (vpc rfl) (by decide)) 5 0 rfl rfl [0, 1, 2, 3] [] (lw_V q1100 q1102 qs17 q38 q1103) nvX6_put rfl rfl (fun _ => rfl) rfl rfl (Nat.le_of_ble_eq_true rfl) dX6_setVibrato_57 ⟨Nat.le_of_ble_eq_true rfl, Nat.le_of_ble_eq_true rfl⟩ ⟨Nat.le_of_ble_eq_true rfl, Nat.le_of_ble_eq_true rfl⟩ (fun r_10 ur_10 hr_10 => ?_)
        refine g_eqw (ws' := [(mo, cO (dd 0) (upd th 0 0)), ((dd 0), cD dd di sm), ((dd 2), .inl (g.2.1, 48, .inl (d_put (da 2) (upd (upd (fun _ => 0) 0 de) 1 pe) i 10 2))), (a_9, .inl (g.2.1, 2, .inl (upd (upd (fun _ => 0) 0 de) 1 pe)))]) rfl ?_
        have hr_10 : r_10 = (da 2) (i * 12 + 10).toNatClampNeg := hr_10
        refine g_goto (tgt := 68) B dX6_setVibrato_60 (by decide) ?_
        subst hr_1
        subst hr_3
        subst hr_6
        subst hr_10
        exact g_iret B hr dX6_setVibrato_68 (Nat.le_of_ble_eq_true rfl) (Nat.le_of_ble_eq_true rfl) () (by first | (simp only [cn, d_vib, if_neg c_2, if_neg c_4, if_neg c_7]; done) | (simp only [cn, d_vib, if_neg c_2, if_neg c_4, if_neg c_7]; rfl) | rfl) [0, 1, 2] rfl (by first | (simp only [cn, d_vib, if_neg c_2, if_neg c_4, if_neg c_7]; rfl) | rfl)
  · skip
    refine g_aload_n B 0 0 dX6_setVibrato_12 rfl rfl ?_
    refine g_iconst (v := 1) B dX6_setVibrato_13 kc_1 ?_
    refine g_cV_i (C := RX6) (T := TX6) (N := 2) (As := [.int 1]) B (m_X6_no l hst g mo (upd th 0 0) dd di sm 1) 5 0 rfl rfl [0] [] (lw_V q1066 q1068 qs15 q38 q1069) nvX6_no rfl rfl (fun _ => rfl) rfl rfl (Nat.le_of_ble_eq_true rfl) dX6_setVibrato_14 ⟨Nat.le_of_ble_eq_true rfl, Nat.le_of_ble_eq_true rfl⟩ ⟨Nat.le_of_ble_eq_true rfl, Nat.le_of_ble_eq_true rfl⟩ (fun r_11 ur_11 hr_11 => ?_)
    refine g_eqw (ws' := [(mo, cO (dd 0) (upd (upd th 0 0) 0 1)), ((dd 0), cD dd di sm), ((dd 2), .inl (g.2.1, 48, .inl (da 2)))]) rfl ?_
    have hr_11 : r_11 = 0 := hr_11
    subst hr_1
    subst hr_11
    exact g_iret B hr dX6_setVibrato_17 (Nat.le_of_ble_eq_true rfl) (Nat.le_of_ble_eq_true rfl) () (by first | (simp only [cn, d_vib, if_pos c_2]; done) | (simp only [cn, d_vib, if_pos c_2]; rfl) | rfl) [0, 1, 2] rfl (by first | (simp only [cn, d_vib, if_pos c_2]; rfl) | rfl)

set_option maxHeartbeats 4000000 in
set_option maxRecDepth 100000 in
theorem m_X6_setGain (l : Launch) (hst : l.stackTraces = false) (g : gG) (mo : Nat) (th : Nat → Int32) (dd : Nat → Nat) (di : Nat → Int32) (sm : Int64) (v : Int32) : gMi l yX6_setGain cX6_setGain 3 .int 1 22 0 0 g [(mo, cO (dd 0) th), ((dd 0), cD dd di sm)] [.ref mo, .int v] (fun (r : Int32) (_ : Unit) => r = (cn (d_gain v) (di 2) 0)) (fun _ : Unit => [(mo, cO (dd 0) (fun _ => (d_gain v))), ((dd 0), cD dd (cn (d_gain v) (upd di 2 v) di) sm)]) := by
  intro sz
  refine g_ent (by decide) hst [(0, .ref mo), (1, .int v)] (Nat.le_of_ble_eq_true rfl) rfl ?_
  intro p e s m below meth c B hr hnm hsz
  have B : gB p l s m ([.ref mo, .int v] : List Value).toArray meth c RX6 cX6_setGain 3 g (va_A [(mo, cO (dd 0) th), ((dd 0), cD dd di sm)] sz) := B
  refine g_aload_n B 0 0 dX6_setGain_0 rfl rfl ?_
  refine g_iconst (v := 0) B dX6_setGain_1 kc_0 ?_
  refine g_put (C := RX6) (T := TX6) (N := 2) (ty := .int) (v := .int 0) B 5 0 0 [(mo, cO (dd 0) (upd th 0 0)), ((dd 0), cD dd di sm)] in_X6 tyX6 tyX6_ok nmX6 rfl q1048 rfl (Nat.le_of_ble_eq_true rfl) (fun _ h9 => h9) rfl rfl rfl rfl (Nat.le_of_ble_eq_true rfl) rfl dX6_setGain_2 ?_
  refine g_iload_n B 1 1 dX6_setGain_5 rfl rfl ?_
  refine g_iconst (v := 0) B dX6_setGain_6 kc_0 ?_
  refine g_sipush (v := 256) B dX6_setGain_7 ks_256 ?_
  refine g_cuS_i (As := [.int v, .int 0, .int 256]) B (m_X6_isIn l hst g v 0 256) [] [] (lw_S q1063 q1064 q38 q1065) nsX6_isIn rfl rfl rfl rfl (Nat.le_of_ble_eq_true rfl) dX6_setGain_10 ⟨Nat.le_of_ble_eq_true rfl, Nat.le_of_ble_eq_true rfl⟩ ⟨Nat.le_of_ble_eq_true rfl, Nat.le_of_ble_eq_true rfl⟩ (fun r_1 ur_1 hr_1 => ?_)
  have hr_1 : r_1 = in_z v 0 256 := hr_1
  refine g_if_ne (tgt := 22) B dX6_setGain_13 (by decide) (fun c_2 => ?_) (fun c_2 => ?_)
  · skip
    refine g_aload_n B 0 0 dX6_setGain_22 rfl rfl ?_
    refine g_get (C := RX6) (T := TX6) (N := 2) B 5 0 1 (.ref (dd 0)) in_X6 rfl q1049 rfl (Nat.le_of_ble_eq_true rfl) (fun _ h9 => h9) rfl dX6_setGain_23 ?_
    refine g_get (C := RX7) (T := TX7) (N := 35) B 6 1 15 (.int (di 2)) in_X7 rfl q939 rfl (Nat.le_of_ble_eq_true rfl) (fun _ h9 => h9) rfl dX6_setGain_26 ?_
    refine g_istore_n B 2 [(2, .int (di 2)), (0, .ref mo), (1, .int v)] dX6_setGain_29 rfl (Nat.le_of_ble_eq_true rfl) rfl ?_
    refine g_aload_n B 0 1 dX6_setGain_30 rfl rfl ?_
    refine g_get (C := RX6) (T := TX6) (N := 2) B 5 0 1 (.ref (dd 0)) in_X6 rfl q1049 rfl (Nat.le_of_ble_eq_true rfl) (fun _ h9 => h9) rfl dX6_setGain_31 ?_
    refine g_iload_n B 1 2 dX6_setGain_34 rfl rfl ?_
    refine g_put (C := RX7) (T := TX7) (N := 35) (ty := .int) (v := .int v) B 6 1 15 [(mo, cO (dd 0) (upd th 0 0)), ((dd 0), cD dd (upd di 2 v) sm)] in_X7 tyX7 tyX7_ok nmX7 rfl q939 rfl (Nat.le_of_ble_eq_true rfl) (fun _ h9 => h9) rfl rfl rfl rfl (Nat.le_of_ble_eq_true rfl) rfl dX6_setGain_35 ?_
    refine g_iload_n B 2 0 dX6_setGain_38 rfl rfl ?_
    subst hr_1
    exact g_iret B hr dX6_setGain_39 (Nat.le_of_ble_eq_true rfl) (Nat.le_of_ble_eq_true rfl) () (by first | (simp only [cn, d_gain, if_neg c_2]; done) | (simp only [cn, d_gain, if_neg c_2]; rfl) | rfl) [0, 1] rfl (by first | (simp only [cn, d_gain, if_neg c_2]; rfl) | rfl)
  · skip
    refine g_aload_n B 0 0 dX6_setGain_16 rfl rfl ?_
    refine g_iconst (v := 1) B dX6_setGain_17 kc_1 ?_
    refine g_cV_i (C := RX6) (T := TX6) (N := 2) (As := [.int 1]) B (m_X6_no l hst g mo (upd th 0 0) dd di sm 1) 5 0 rfl rfl [0] [] (lw_V q1066 q1068 qs15 q38 q1069) nvX6_no rfl rfl (fun _ => rfl) rfl rfl (Nat.le_of_ble_eq_true rfl) dX6_setGain_18 ⟨Nat.le_of_ble_eq_true rfl, Nat.le_of_ble_eq_true rfl⟩ ⟨Nat.le_of_ble_eq_true rfl, Nat.le_of_ble_eq_true rfl⟩ (fun r_3 ur_3 hr_3 => ?_)
    refine g_eqw (ws' := [(mo, cO (dd 0) (upd (upd th 0 0) 0 1)), ((dd 0), cD dd di sm)]) rfl ?_
    have hr_3 : r_3 = 0 := hr_3
    subst hr_1
    subst hr_3
    exact g_iret B hr dX6_setGain_21 (Nat.le_of_ble_eq_true rfl) (Nat.le_of_ble_eq_true rfl) () (by first | (simp only [cn, d_gain, if_pos c_2]; done) | (simp only [cn, d_gain, if_pos c_2]; rfl) | rfl) [0, 1] rfl (by first | (simp only [cn, d_gain, if_pos c_2]; rfl) | rfl)

set_option maxHeartbeats 4000000 in
set_option maxRecDepth 100000 in
theorem m_X6_setDelay (l : Launch) (hst : l.stackTraces = false) (g : gG) (mo : Nat) (th : Nat → Int32) (dd : Nat → Nat) (di : Nat → Int32) (sm : Int64) (da : Nat → Nat → Int32) (n we ba : Int32) : gMi l yX6_setDelay cX6_setDelay 6 .int 1 22 0 0 g [(mo, cO (dd 0) th), ((dd 0), cD dd di sm), ((dd 14), .inl (g.2.1, 200, .inl (da 14)))] [.ref mo, .int n, .int we, .int ba] (fun (r : Int32) (_ : Unit) => r = (cn (d_delay n we ba) (di 3) 0)) (fun _ : Unit => [(mo, cO (dd 0) (fun _ => (d_delay n we ba))), ((dd 0), cD dd (cn (d_delay n we ba) (upd (upd (upd di 3 n) 4 we) 5 ba) di) sm), ((dd 14), .inl (g.2.1, 200, .inl (cn (d_delay n we ba) (rz 200 (da 14)) (da 14))))]) := by
  intro sz
  refine g_ent (by decide) hst [(0, .ref mo), (1, .int n), (2, .int we), (3, .int ba)] (Nat.le_of_ble_eq_true rfl) rfl ?_
  intro p e s m below meth c B hr hnm hsz
  have B : gB p l s m ([.ref mo, .int n, .int we, .int ba] : List Value).toArray meth c RX6 cX6_setDelay 6 g (va_A [(mo, cO (dd 0) th), ((dd 0), cD dd di sm), ((dd 14), .inl (g.2.1, 200, .inl (da 14)))] sz) := B
  refine g_aload_n B 0 0 dX6_setDelay_0 rfl rfl ?_
  refine g_iconst (v := 0) B dX6_setDelay_1 kc_0 ?_
  refine g_put (C := RX6) (T := TX6) (N := 2) (ty := .int) (v := .int 0) B 5 0 0 [(mo, cO (dd 0) (upd th 0 0)), ((dd 0), cD dd di sm), ((dd 14), .inl (g.2.1, 200, .inl (da 14)))] in_X6 tyX6 tyX6_ok nmX6 rfl q1048 rfl (Nat.le_of_ble_eq_true rfl) (fun _ h9 => h9) rfl rfl rfl rfl (Nat.le_of_ble_eq_true rfl) rfl dX6_setDelay_2 ?_
  refine g_iload_n B 1 1 dX6_setDelay_5 rfl rfl ?_
  refine g_iconst (v := 0) B dX6_setDelay_6 kc_0 ?_
  refine g_sipush (v := 200) B dX6_setDelay_7 ks_200 ?_
  refine g_cuS_i (As := [.int n, .int 0, .int 200]) B (m_X6_isIn l hst g n 0 200) [] [] (lw_S q1063 q1064 q38 q1065) nsX6_isIn rfl rfl rfl rfl (Nat.le_of_ble_eq_true rfl) dX6_setDelay_10 ⟨Nat.le_of_ble_eq_true rfl, Nat.le_of_ble_eq_true rfl⟩ ⟨Nat.le_of_ble_eq_true rfl, Nat.le_of_ble_eq_true rfl⟩ (fun r_1 ur_1 hr_1 => ?_)
  have hr_1 : r_1 = in_z n 0 200 := hr_1
  refine g_if_eq (tgt := 38) B dX6_setDelay_13 (by decide) (fun c_2 => ?_) (fun c_2 => ?_)
  · skip
    refine g_aload_n B 0 0 dX6_setDelay_38 rfl rfl ?_
    refine g_iconst (v := 1) B dX6_setDelay_39 kc_1 ?_
    refine g_cV_i (C := RX6) (T := TX6) (N := 2) (As := [.int 1]) B (m_X6_no l hst g mo (upd th 0 0) dd di sm 1) 5 0 rfl rfl [0] [] (lw_V q1066 q1068 qs15 q38 q1069) nvX6_no rfl rfl (fun _ => rfl) rfl rfl (Nat.le_of_ble_eq_true rfl) dX6_setDelay_40 ⟨Nat.le_of_ble_eq_true rfl, Nat.le_of_ble_eq_true rfl⟩ ⟨Nat.le_of_ble_eq_true rfl, Nat.le_of_ble_eq_true rfl⟩ (fun r_3 ur_3 hr_3 => ?_)
    refine g_eqw (ws' := [(mo, cO (dd 0) (upd (upd th 0 0) 0 1)), ((dd 0), cD dd di sm), ((dd 14), .inl (g.2.1, 200, .inl (da 14)))]) rfl ?_
    have hr_3 : r_3 = 0 := hr_3
    subst hr_1
    subst hr_3
    exact g_iret B hr dX6_setDelay_43 (Nat.le_of_ble_eq_true rfl) (Nat.le_of_ble_eq_true rfl) () (by first | (simp only [cn, d_delay, if_pos c_2]; done) | (simp only [cn, d_delay, if_pos c_2]; rfl) | rfl) [0, 1, 2] rfl (by first | (simp only [cn, d_delay, if_pos c_2]; rfl) | rfl)
  · skip
    refine g_iload_n B 2 2 dX6_setDelay_16 rfl rfl ?_
    refine g_iconst (v := 0) B dX6_setDelay_17 kc_0 ?_
    refine g_sipush (v := 256) B dX6_setDelay_18 ks_256 ?_
    refine g_cuS_i (As := [.int we, .int 0, .int 256]) B (m_X6_isIn l hst g we 0 256) [] [] (lw_S q1063 q1064 q38 q1065) nsX6_isIn rfl rfl rfl rfl (Nat.le_of_ble_eq_true rfl) dX6_setDelay_21 ⟨Nat.le_of_ble_eq_true rfl, Nat.le_of_ble_eq_true rfl⟩ ⟨Nat.le_of_ble_eq_true rfl, Nat.le_of_ble_eq_true rfl⟩ (fun r_4 ur_4 hr_4 => ?_)
    have hr_4 : r_4 = in_z we 0 256 := hr_4
    refine g_if_eq (tgt := 38) B dX6_setDelay_24 (by decide) (fun c_5 => ?_) (fun c_5 => ?_)
    · skip
      refine g_aload_n B 0 0 dX6_setDelay_38 rfl rfl ?_
      refine g_iconst (v := 1) B dX6_setDelay_39 kc_1 ?_
      refine g_cV_i (C := RX6) (T := TX6) (N := 2) (As := [.int 1]) B (m_X6_no l hst g mo (upd th 0 0) dd di sm 1) 5 0 rfl rfl [0] [] (lw_V q1066 q1068 qs15 q38 q1069) nvX6_no rfl rfl (fun _ => rfl) rfl rfl (Nat.le_of_ble_eq_true rfl) dX6_setDelay_40 ⟨Nat.le_of_ble_eq_true rfl, Nat.le_of_ble_eq_true rfl⟩ ⟨Nat.le_of_ble_eq_true rfl, Nat.le_of_ble_eq_true rfl⟩ (fun r_6 ur_6 hr_6 => ?_)
      refine g_eqw (ws' := [(mo, cO (dd 0) (upd (upd th 0 0) 0 1)), ((dd 0), cD dd di sm), ((dd 14), .inl (g.2.1, 200, .inl (da 14)))]) rfl ?_
      have hr_6 : r_6 = 0 := hr_6
      subst hr_1
      subst hr_4
      subst hr_6
      exact g_iret B hr dX6_setDelay_43 (Nat.le_of_ble_eq_true rfl) (Nat.le_of_ble_eq_true rfl) () (by first | (simp only [cn, d_delay, if_neg c_2, if_pos c_5]; done) | (simp only [cn, d_delay, if_neg c_2, if_pos c_5]; rfl) | rfl) [0, 1, 2] rfl (by first | (simp only [cn, d_delay, if_neg c_2, if_pos c_5]; rfl) | rfl)
    · skip
      refine g_iload_n B 3 3 dX6_setDelay_27 rfl rfl ?_
      refine g_iconst (v := 0) B dX6_setDelay_28 kc_0 ?_
      refine g_sipush (v := 256) B dX6_setDelay_29 ks_256 ?_
      refine g_cuS_i (As := [.int ba, .int 0, .int 256]) B (m_X6_isIn l hst g ba 0 256) [] [] (lw_S q1063 q1064 q38 q1065) nsX6_isIn rfl rfl rfl rfl (Nat.le_of_ble_eq_true rfl) dX6_setDelay_32 ⟨Nat.le_of_ble_eq_true rfl, Nat.le_of_ble_eq_true rfl⟩ ⟨Nat.le_of_ble_eq_true rfl, Nat.le_of_ble_eq_true rfl⟩ (fun r_7 ur_7 hr_7 => ?_)
      have hr_7 : r_7 = in_z ba 0 256 := hr_7
      refine g_if_ne (tgt := 44) B dX6_setDelay_35 (by decide) (fun c_8 => ?_) (fun c_8 => ?_)
      · skip
        refine g_aload_n B 0 0 dX6_setDelay_44 rfl rfl ?_
        refine g_get (C := RX6) (T := TX6) (N := 2) B 5 0 1 (.ref (dd 0)) in_X6 rfl q1049 rfl (Nat.le_of_ble_eq_true rfl) (fun _ h9 => h9) rfl dX6_setDelay_45 ?_
        refine g_get (C := RX7) (T := TX7) (N := 35) B 6 1 16 (.int (di 3)) in_X7 rfl q941 rfl (Nat.le_of_ble_eq_true rfl) (fun _ h9 => h9) rfl dX6_setDelay_48 ?_
        refine g_istore B [(4, .int (di 3)), (0, .ref mo), (1, .int n), (2, .int we), (3, .int ba)] dX6_setDelay_51 (Nat.le_of_ble_eq_true rfl) rfl ?_
        refine g_aload_n B 0 1 dX6_setDelay_53 rfl rfl ?_
        refine g_get (C := RX6) (T := TX6) (N := 2) B 5 0 1 (.ref (dd 0)) in_X6 rfl q1049 rfl (Nat.le_of_ble_eq_true rfl) (fun _ h9 => h9) rfl dX6_setDelay_54 ?_
        refine g_iload_n B 1 2 dX6_setDelay_57 rfl rfl ?_
        refine g_put (C := RX7) (T := TX7) (N := 35) (ty := .int) (v := .int n) B 6 1 16 [(mo, cO (dd 0) (upd th 0 0)), ((dd 0), cD dd (upd di 3 n) sm), ((dd 14), .inl (g.2.1, 200, .inl (da 14)))] in_X7 tyX7 tyX7_ok nmX7 rfl q941 rfl (Nat.le_of_ble_eq_true rfl) (fun _ h9 => h9) rfl rfl rfl rfl (Nat.le_of_ble_eq_true rfl) rfl dX6_setDelay_58 ?_
        refine g_aload_n B 0 1 dX6_setDelay_61 rfl rfl ?_
        refine g_get (C := RX6) (T := TX6) (N := 2) B 5 0 1 (.ref (dd 0)) in_X6 rfl q1049 rfl (Nat.le_of_ble_eq_true rfl) (fun _ h9 => h9) rfl dX6_setDelay_62 ?_
        refine g_iload_n B 2 3 dX6_setDelay_65 rfl rfl ?_
        refine g_put (C := RX7) (T := TX7) (N := 35) (ty := .int) (v := .int we) B 6 1 17 [(mo, cO (dd 0) (upd th 0 0)), ((dd 0), cD dd (upd (upd di 3 n) 4 we) sm), ((dd 14), .inl (g.2.1, 200, .inl (da 14)))] in_X7 tyX7 tyX7_ok nmX7 rfl q943 rfl (Nat.le_of_ble_eq_true rfl) (fun _ h9 => h9) rfl rfl rfl rfl (Nat.le_of_ble_eq_true rfl) rfl dX6_setDelay_66 ?_
        refine g_aload_n B 0 1 dX6_setDelay_69 rfl rfl ?_
        refine g_get (C := RX6) (T := TX6) (N := 2) B 5 0 1 (.ref (dd 0)) in_X6 rfl q1049 rfl (Nat.le_of_ble_eq_true rfl) (fun _ h9 => h9) rfl dX6_setDelay_70 ?_
        refine g_iload_n B 3 4 dX6_setDelay_73 rfl rfl ?_
        refine g_put (C := RX7) (T := TX7) (N := 35) (ty := .int) (v := .int ba) B 6 1 18 [(mo, cO (dd 0) (upd th 0 0)), ((dd 0), cD dd (upd (upd (upd di 3 n) 4 we) 5 ba) sm), ((dd 14), .inl (g.2.1, 200, .inl (da 14)))] in_X7 tyX7 tyX7_ok nmX7 rfl q945 rfl (Nat.le_of_ble_eq_true rfl) (fun _ h9 => h9) rfl rfl rfl rfl (Nat.le_of_ble_eq_true rfl) rfl dX6_setDelay_74 ?_
        refine g_iconst (v := 0) B dX6_setDelay_77 kc_0 ?_
        refine g_istore B [(5, .int 0), (4, .int (di 3)), (0, .ref mo), (1, .int n), (2, .int we), (3, .int ba)] dX6_setDelay_78 (Nat.le_of_ble_eq_true rfl) rfl ?_
        refine g_lvq (lv' := [(5, .int (nI 0)), (4, .int (di 3)), (0, .ref mo), (1, .int n), (2, .int we), (3, .int ba)]) (by first | rfl | (rw [nI_0]; rfl) | rw [nI_0]) ?_
        refine g_eqw (ws' := [(mo, cO (dd 0) (upd th 0 0)), ((dd 0), cD dd (upd (upd (upd di 3 n) 4 we) 5 ba) sm), ((dd 14), .inl (g.2.1, 200, .inl (rz 0 (da 14))))]) (by rw [rz_0]) ?_
        refine g_loop (P := fun t_9 => gW p l e (gRm 1 22 0 0) s m ([.ref mo, .int n, .int we, .int ba] : List Value).toArray below meth c (MQ below (va_Qi (fun (r : Int32) (_ : Unit) => r = (cn (d_delay n we ba) (di 3) 0)) (fun u t => gE g (va_A [(mo, cO (dd 0) th), ((dd 0), cD dd di sm), ((dd 14), .inl (g.2.1, 200, .inl (da 14)))] sz) ((fun _ : Unit => [(mo, cO (dd 0) (fun _ => (d_delay n we ba))), ((dd 0), cD dd (cn (d_delay n we ba) (upd (upd (upd di 3 n) 4 we) 5 ba) di) sm), ((dd 14), .inl (g.2.1, 200, .inl (cn (d_delay n we ba) (rz 200 (da 14)) (da 14))))]) u) t) (va_A [(mo, cO (dd 0) th), ((dd 0), cD dd di sm), ((dd 14), .inl (g.2.1, 200, .inl (da 14)))] sz)) ([.ref mo, .int n, .int we, .int ba] : List Value).toArray s 0 0 (va_A [(mo, cO (dd 0) th), ((dd 0), cD dd di sm), ((dd 14), .inl (g.2.1, 200, .inl (da 14)))] sz)) 6 g (va_A [(mo, cO (dd 0) th), ((dd 0), cD dd di sm), ((dd 14), .inl (g.2.1, 200, .inl (da 14)))] sz) [(mo, cO (dd 0) (upd th 0 0)), ((dd 0), cD dd (upd (upd (upd di 3 n) 4 we) 5 ba) sm), ((dd 14), .inl (g.2.1, 200, .inl (rz t_9 (da 14))))] [(5, .int (nI t_9)), (4, .int (di 3)), (0, .ref mo), (1, .int n), (2, .int we), (3, .int ba)] [] 80 0 0) 200 (fun t_9 ht_9 iht_9  => ?_) ?_
        · skip
          refine g_iload B 0 dX6_setDelay_80 rfl ?_
          refine g_sipush (v := 200) B dX6_setDelay_82 ks_200 ?_
          refine g_icmp_ge_F (tgt := 105) B dX6_setDelay_85 (by decide) (nI_ge ht_9 (by decide) : ¬ nI 200 ≤ nI t_9) ?_
          refine g_aload_n B 0 2 dX6_setDelay_88 rfl rfl ?_
          refine g_get (C := RX6) (T := TX6) (N := 2) B 5 0 1 (.ref (dd 0)) in_X6 rfl q1049 rfl (Nat.le_of_ble_eq_true rfl) (fun _ h9 => h9) rfl dX6_setDelay_89 ?_
          refine g_get (C := RX7) (T := TX7) (N := 35) B 6 1 19 (.ref (dd 14)) in_X7 rfl q947 rfl (Nat.le_of_ble_eq_true rfl) (fun _ h9 => h9) rfl dX6_setDelay_92 ?_
          refine g_iload B 0 dX6_setDelay_95 rfl ?_
          refine g_iconst (v := 0) B dX6_setDelay_97 kc_0 ?_
          refine g_iast B 2 t_9 [(mo, cO (dd 0) (upd th 0 0)), ((dd 0), cD dd (upd (upd (upd di 3 n) 4 we) 5 ba) sm), ((dd 14), .inl (g.2.1, 200, .inl (upd (rz t_9 (da 14)) t_9 0)))] rfl (nI_clamp (by omega)) (vp_in_nI (by omega) (by omega)) rfl dX6_setDelay_98 ?_
          refine g_iinc B 0 (nI (t_9 + 1)) [(5, .int (nI (t_9 + 1))), (4, .int (di 3)), (0, .ref mo), (1, .int n), (2, .int we), (3, .int ba)] dX6_setDelay_99 rfl (by rw [kc_1]; exact nI_1 t_9) (Nat.le_of_ble_eq_true rfl) rfl ?_
          refine g_goto (tgt := 80) B dX6_setDelay_102 (by decide) ?_
          refine g_eqw (ws' := [(mo, cO (dd 0) (upd th 0 0)), ((dd 0), cD dd (upd (upd (upd di 3 n) 4 we) 5 ba) sm), ((dd 14), .inl (g.2.1, 200, .inl (rz (t_9 + 1) (da 14))))]) (by rw [rz_s]) ?_
          exact iht_9
        · skip
          refine g_lvq (lv' := [(5, .int 200), (4, .int (di 3)), (0, .ref mo), (1, .int n), (2, .int we), (3, .int ba)]) rfl ?_
          refine g_iload B 0 dX6_setDelay_80 rfl ?_
          refine g_sipush (v := 200) B dX6_setDelay_82 ks_200 ?_
          refine g_icmp_ge_T (tgt := 105) B dX6_setDelay_85 (by decide) (by decide) ?_
          refine g_iload B 1 dX6_setDelay_105 rfl ?_
          subst hr_1
          subst hr_4
          subst hr_7
          exact g_iret B hr dX6_setDelay_107 (Nat.le_of_ble_eq_true rfl) (Nat.le_of_ble_eq_true rfl) () (by first | (simp only [cn, d_delay, if_neg c_2, if_neg c_5, if_neg c_8]; done) | (simp only [cn, d_delay, if_neg c_2, if_neg c_5, if_neg c_8]; rfl) | rfl) [0, 1, 2] rfl (by first | (simp only [cn, d_delay, if_neg c_2, if_neg c_5, if_neg c_8]; rfl) | rfl)
      · skip
        refine g_aload_n B 0 0 dX6_setDelay_38 rfl rfl ?_
        refine g_iconst (v := 1) B dX6_setDelay_39 kc_1 ?_
        refine g_cV_i (C := RX6) (T := TX6) (N := 2) (As := [.int 1]) B (m_X6_no l hst g mo (upd th 0 0) dd di sm 1) 5 0 rfl rfl [0] [] (lw_V q1066 q1068 qs15 q38 q1069) nvX6_no rfl rfl (fun _ => rfl) rfl rfl (Nat.le_of_ble_eq_true rfl) dX6_setDelay_40 ⟨Nat.le_of_ble_eq_true rfl, Nat.le_of_ble_eq_true rfl⟩ ⟨Nat.le_of_ble_eq_true rfl, Nat.le_of_ble_eq_true rfl⟩ (fun r_10 ur_10 hr_10 => ?_)
        refine g_eqw (ws' := [(mo, cO (dd 0) (upd (upd th 0 0) 0 1)), ((dd 0), cD dd di sm), ((dd 14), .inl (g.2.1, 200, .inl (da 14)))]) rfl ?_
        have hr_10 : r_10 = 0 := hr_10
        subst hr_1
        subst hr_4
        subst hr_7
        subst hr_10
        exact g_iret B hr dX6_setDelay_43 (Nat.le_of_ble_eq_true rfl) (Nat.le_of_ble_eq_true rfl) () (by first | (simp only [cn, d_delay, if_neg c_2, if_neg c_5, if_pos c_8]; done) | (simp only [cn, d_delay, if_neg c_2, if_neg c_5, if_pos c_8]; rfl) | rfl) [0, 1, 2] rfl (by first | (simp only [cn, d_delay, if_neg c_2, if_neg c_5, if_pos c_8]; rfl) | rfl)

set_option maxHeartbeats 4000000 in
set_option maxRecDepth 100000 in
theorem m_X6_begin (l : Launch) (hst : l.stackTraces = false) (g : gG) (mo : Nat) (th : Nat → Int32) (dd : Nat → Nat) (di : Nat → Int32) (sm : Int64) (da : Nat → Nat → Int32) (i pi fo : Int32) : gMi l yX6_begin cX6_begin 4 .int 2 47 0 0 g [(mo, cO (dd 0) th), ((dd 0), cD dd di sm), ((dd 3), .inl (g.2.1, 4, .inl (da 3))), ((dd 4), .inl (g.2.1, 4, .inl (da 4))), ((dd 5), .inl (g.2.1, 4, .inl (da 5))), ((dd 6), .inl (g.2.1, 4, .inl (da 6))), ((dd 7), .inl (g.2.1, 4, .inl (da 7))), ((dd 8), .inl (g.2.1, 4, .inl (da 8))), ((dd 9), .inl (g.2.1, 4, .inl (da 9))), ((dd 10), .inl (g.2.1, 4, .inl (da 10))), ((dd 11), .inl (g.2.1, 4, .inl (da 11))), ((dd 12), .inl (g.2.1, 4, .inl (da 12))), ((dd 13), .inl (g.2.1, 4, .inl (da 13)))] [.ref mo, .int i, .int pi, .int fo] (fun (r : Int32) (_ : Unit) => r = (cn (d_begin i pi fo) (nI (d_v da)) 0)) (fun _ : Unit => [(mo, cO (dd 0) (fun _ => (d_begin i pi fo))), ((dd 0), cD dd (cn (d_begin i pi fo) (d_bi da di) di) sm), ((dd 3), .inl (g.2.1, 4, .inl (cn (d_begin i pi fo) (d_be da di i pi fo (-1) 3) (da 3)))), ((dd 4), .inl (g.2.1, 4, .inl (cn (d_begin i pi fo) (d_be da di i pi fo (-1) 4) (da 4)))), ((dd 5), .inl (g.2.1, 4, .inl (cn (d_begin i pi fo) (d_be da di i pi fo (-1) 5) (da 5)))), ((dd 6), .inl (g.2.1, 4, .inl (cn (d_begin i pi fo) (d_be da di i pi fo (-1) 6) (da 6)))), ((dd 7), .inl (g.2.1, 4, .inl (cn (d_begin i pi fo) (d_be da di i pi fo (-1) 7) (da 7)))), ((dd 8), .inl (g.2.1, 4, .inl (cn (d_begin i pi fo) (d_be da di i pi fo (-1) 8) (da 8)))), ((dd 9), .inl (g.2.1, 4, .inl (cn (d_begin i pi fo) (d_be da di i pi fo (-1) 9) (da 9)))), ((dd 10), .inl (g.2.1, 4, .inl (cn (d_begin i pi fo) (d_be da di i pi fo (-1) 10) (da 10)))), ((dd 11), .inl (g.2.1, 4, .inl (cn (d_begin i pi fo) (d_be da di i pi fo (-1) 11) (da 11)))), ((dd 12), .inl (g.2.1, 4, .inl (cn (d_begin i pi fo) (d_be da di i pi fo (-1) 12) (da 12)))), ((dd 13), .inl (g.2.1, 4, .inl (cn (d_begin i pi fo) (d_be da di i pi fo (-1) 13) (da 13))))]) := by
  intro sz
  refine g_ent (by decide) hst [(0, .ref mo), (1, .int i), (2, .int pi), (3, .int fo)] (Nat.le_of_ble_eq_true rfl) rfl ?_
  intro p e s m below meth c B hr hnm hsz
  have B : gB p l s m ([.ref mo, .int i, .int pi, .int fo] : List Value).toArray meth c RX6 cX6_begin 4 g (va_A [(mo, cO (dd 0) th), ((dd 0), cD dd di sm), ((dd 3), .inl (g.2.1, 4, .inl (da 3))), ((dd 4), .inl (g.2.1, 4, .inl (da 4))), ((dd 5), .inl (g.2.1, 4, .inl (da 5))), ((dd 6), .inl (g.2.1, 4, .inl (da 6))), ((dd 7), .inl (g.2.1, 4, .inl (da 7))), ((dd 8), .inl (g.2.1, 4, .inl (da 8))), ((dd 9), .inl (g.2.1, 4, .inl (da 9))), ((dd 10), .inl (g.2.1, 4, .inl (da 10))), ((dd 11), .inl (g.2.1, 4, .inl (da 11))), ((dd 12), .inl (g.2.1, 4, .inl (da 12))), ((dd 13), .inl (g.2.1, 4, .inl (da 13)))] sz) := B
  refine g_aload_n B 0 0 dX6_begin_0 rfl rfl ?_
  refine g_iconst (v := 0) B dX6_begin_1 kc_0 ?_
  refine g_put (C := RX6) (T := TX6) (N := 2) (ty := .int) (v := .int 0) B 5 0 0 [(mo, cO (dd 0) (upd th 0 0)), ((dd 0), cD dd di sm), ((dd 3), .inl (g.2.1, 4, .inl (da 3))), ((dd 4), .inl (g.2.1, 4, .inl (da 4))), ((dd 5), .inl (g.2.1, 4, .inl (da 5))), ((dd 6), .inl (g.2.1, 4, .inl (da 6))), ((dd 7), .inl (g.2.1, 4, .inl (da 7))), ((dd 8), .inl (g.2.1, 4, .inl (da 8))), ((dd 9), .inl (g.2.1, 4, .inl (da 9))), ((dd 10), .inl (g.2.1, 4, .inl (da 10))), ((dd 11), .inl (g.2.1, 4, .inl (da 11))), ((dd 12), .inl (g.2.1, 4, .inl (da 12))), ((dd 13), .inl (g.2.1, 4, .inl (da 13)))] in_X6 tyX6 tyX6_ok nmX6 rfl q1048 rfl (Nat.le_of_ble_eq_true rfl) (fun _ h9 => h9) rfl rfl rfl rfl (Nat.le_of_ble_eq_true rfl) rfl dX6_begin_2 ?_
  refine g_iload_n B 1 1 dX6_begin_5 rfl rfl ?_
  refine g_cuS_i (As := [.int i]) B (m_X6_isInstrument l hst g i) [] [] (lw_S q1097 q1098 q38 q1099) nsX6_isInstrument rfl rfl rfl rfl (Nat.le_of_ble_eq_true rfl) dX6_begin_6 ⟨Nat.le_of_ble_eq_true rfl, Nat.le_of_ble_eq_true rfl⟩ ⟨Nat.le_of_ble_eq_true rfl, Nat.le_of_ble_eq_true rfl⟩ (fun r_1 ur_1 hr_1 => ?_)
  have hr_1 : r_1 = in_z i 0 3 := hr_1
  refine g_if_ne (tgt := 18) B dX6_begin_9 (by decide) (fun c_2 => ?_) (fun c_2 => ?_)
  · skip
    refine g_iload_n B 2 2 dX6_begin_18 rfl rfl ?_
    refine g_iconst (v := 0) B dX6_begin_19 kc_0 ?_
    refine g_bipush (v := 47) B dX6_begin_20 kb_47 ?_
    refine g_cuS_i (As := [.int pi, .int 0, .int 47]) B (m_X6_isIn l hst g pi 0 47) [] [] (lw_S q1063 q1064 q38 q1065) nsX6_isIn rfl rfl rfl rfl (Nat.le_of_ble_eq_true rfl) dX6_begin_22 ⟨Nat.le_of_ble_eq_true rfl, Nat.le_of_ble_eq_true rfl⟩ ⟨Nat.le_of_ble_eq_true rfl, Nat.le_of_ble_eq_true rfl⟩ (fun r_3 ur_3 hr_3 => ?_)
    have hr_3 : r_3 = in_z pi 0 47 := hr_3
    refine g_if_eq (tgt := 52) B dX6_begin_25 (by decide) (fun c_4 => ?_) (fun c_4 => ?_)
    · skip
      refine g_aload_n B 0 0 dX6_begin_52 rfl rfl ?_
      refine g_iconst (v := 2) B dX6_begin_53 kc_2 ?_
      refine g_cV_i (C := RX6) (T := TX6) (N := 2) (As := [.int 2]) B (m_X6_no l hst g mo (upd th 0 0) dd di sm 2) 5 0 rfl rfl [0] [] (lw_V q1066 q1068 qs15 q38 q1069) nvX6_no rfl rfl (fun _ => rfl) rfl rfl (Nat.le_of_ble_eq_true rfl) dX6_begin_54 ⟨Nat.le_of_ble_eq_true rfl, Nat.le_of_ble_eq_true rfl⟩ ⟨Nat.le_of_ble_eq_true rfl, Nat.le_of_ble_eq_true rfl⟩ (fun r_5 ur_5 hr_5 => ?_)
      refine g_eqw (ws' := [(mo, cO (dd 0) (upd (upd th 0 0) 0 2)), ((dd 0), cD dd di sm), ((dd 3), .inl (g.2.1, 4, .inl (da 3))), ((dd 4), .inl (g.2.1, 4, .inl (da 4))), ((dd 5), .inl (g.2.1, 4, .inl (da 5))), ((dd 6), .inl (g.2.1, 4, .inl (da 6))), ((dd 7), .inl (g.2.1, 4, .inl (da 7))), ((dd 8), .inl (g.2.1, 4, .inl (da 8))), ((dd 9), .inl (g.2.1, 4, .inl (da 9))), ((dd 10), .inl (g.2.1, 4, .inl (da 10))), ((dd 11), .inl (g.2.1, 4, .inl (da 11))), ((dd 12), .inl (g.2.1, 4, .inl (da 12))), ((dd 13), .inl (g.2.1, 4, .inl (da 13)))]) rfl ?_
      have hr_5 : r_5 = 0 := hr_5
      subst hr_1
      subst hr_3
      subst hr_5
      exact g_iret B hr dX6_begin_57 (Nat.le_of_ble_eq_true rfl) (Nat.le_of_ble_eq_true rfl) () (by first | (simp only [cn, d_begin, if_neg c_2, if_pos c_4]; done) | (simp only [cn, d_begin, if_neg c_2, if_pos c_4]; rfl) | rfl) [0, 1, 2, 3, 4, 5, 6, 7, 8, 9, 10, 11, 12] rfl (by first | (simp only [cn, d_begin, if_neg c_2, if_pos c_4]; rfl) | rfl)
    · skip
      refine g_iload_n B 3 3 dX6_begin_28 rfl rfl ?_
      refine g_iconst (v := 1) B dX6_begin_29 kc_1 ?_
      refine g_bipush (v := 127) B dX6_begin_30 kb_127 ?_
      refine g_cuS_i (As := [.int fo, .int 1, .int 127]) B (m_X6_isIn l hst g fo 1 127) [] [] (lw_S q1063 q1064 q38 q1065) nsX6_isIn rfl rfl rfl rfl (Nat.le_of_ble_eq_true rfl) dX6_begin_32 ⟨Nat.le_of_ble_eq_true rfl, Nat.le_of_ble_eq_true rfl⟩ ⟨Nat.le_of_ble_eq_true rfl, Nat.le_of_ble_eq_true rfl⟩ (fun r_6 ur_6 hr_6 => ?_)
      have hr_6 : r_6 = in_z fo 1 127 := hr_6
      refine g_if_eq (tgt := 52) B dX6_begin_35 (by decide) (fun c_7 => ?_) (fun c_7 => ?_)
      · skip
        refine g_aload_n B 0 0 dX6_begin_52 rfl rfl ?_
        refine g_iconst (v := 2) B dX6_begin_53 kc_2 ?_
        refine g_cV_i (C := RX6) (T := TX6) (N := 2) (As := [.int 2]) B (m_X6_no l hst g mo (upd th 0 0) dd di sm 2) 5 0 rfl rfl [0] [] (lw_V q1066 q1068 qs15 q38 q1069) nvX6_no rfl rfl (fun _ => rfl) rfl rfl (Nat.le_of_ble_eq_true rfl) dX6_begin_54 ⟨Nat.le_of_ble_eq_true rfl, Nat.le_of_ble_eq_true rfl⟩ ⟨Nat.le_of_ble_eq_true rfl, Nat.le_of_ble_eq_true rfl⟩ (fun r_8 ur_8 hr_8 => ?_)
        refine g_eqw (ws' := [(mo, cO (dd 0) (upd (upd th 0 0) 0 2)), ((dd 0), cD dd di sm), ((dd 3), .inl (g.2.1, 4, .inl (da 3))), ((dd 4), .inl (g.2.1, 4, .inl (da 4))), ((dd 5), .inl (g.2.1, 4, .inl (da 5))), ((dd 6), .inl (g.2.1, 4, .inl (da 6))), ((dd 7), .inl (g.2.1, 4, .inl (da 7))), ((dd 8), .inl (g.2.1, 4, .inl (da 8))), ((dd 9), .inl (g.2.1, 4, .inl (da 9))), ((dd 10), .inl (g.2.1, 4, .inl (da 10))), ((dd 11), .inl (g.2.1, 4, .inl (da 11))), ((dd 12), .inl (g.2.1, 4, .inl (da 12))), ((dd 13), .inl (g.2.1, 4, .inl (da 13)))]) rfl ?_
        have hr_8 : r_8 = 0 := hr_8
        subst hr_1
        subst hr_3
        subst hr_6
        subst hr_8
        exact g_iret B hr dX6_begin_57 (Nat.le_of_ble_eq_true rfl) (Nat.le_of_ble_eq_true rfl) () (by first | (simp only [cn, d_begin, if_neg c_2, if_neg c_4, if_pos c_7]; done) | (simp only [cn, d_begin, if_neg c_2, if_neg c_4, if_pos c_7]; rfl) | rfl) [0, 1, 2, 3, 4, 5, 6, 7, 8, 9, 10, 11, 12] rfl (by first | (simp only [cn, d_begin, if_neg c_2, if_neg c_4, if_pos c_7]; rfl) | rfl)
      · skip
        refine g_aload_n B 0 0 dX6_begin_38 rfl rfl ?_
        refine g_get (C := RX6) (T := TX6) (N := 2) B 5 0 1 (.ref (dd 0)) in_X6 rfl q1049 rfl (Nat.le_of_ble_eq_true rfl) (fun _ h9 => h9) rfl dX6_begin_39 ?_
        refine g_iload_n B 1 1 dX6_begin_42 rfl rfl ?_
        refine g_iload_n B 2 2 dX6_begin_43 rfl rfl ?_
        refine g_iload_n B 3 3 dX6_begin_44 rfl rfl ?_
        refine g_iconst (v := (-1)) B dX6_begin_45 kc_m1 ?_
        refine g_cV_i (C := RX7) (T := TX7) (N := 35) (As := [.int i, .int pi, .int fo, .int (-1)]) B (m_X7_begin l hst g dd di sm da i pi fo (-1)) 6 0 rfl rfl [1, 2, 3, 4, 5, 6, 7, 8, 9, 10, 11, 12] [] (lw_V q1129 q1130 q1131 q39 q1132) nvX7_begin rfl rfl (fun _ => rfl) rfl rfl (Nat.le_of_ble_eq_true rfl) dX6_begin_46 ⟨Nat.le_of_ble_eq_true rfl, Nat.le_of_ble_eq_true rfl⟩ ⟨Nat.le_of_ble_eq_true rfl, Nat.le_of_ble_eq_true rfl⟩ (fun r_9 ur_9 hr_9 => ?_)
        refine g_eqw (ws' := [(mo, cO (dd 0) (upd th 0 0)), ((dd 0), cD dd (d_bi da di) sm), ((dd 3), .inl (g.2.1, 4, .inl ((d_be da di i pi fo (-1)) 3))), ((dd 4), .inl (g.2.1, 4, .inl ((d_be da di i pi fo (-1)) 4))), ((dd 5), .inl (g.2.1, 4, .inl ((d_be da di i pi fo (-1)) 5))), ((dd 6), .inl (g.2.1, 4, .inl ((d_be da di i pi fo (-1)) 6))), ((dd 7), .inl (g.2.1, 4, .inl ((d_be da di i pi fo (-1)) 7))), ((dd 8), .inl (g.2.1, 4, .inl ((d_be da di i pi fo (-1)) 8))), ((dd 9), .inl (g.2.1, 4, .inl ((d_be da di i pi fo (-1)) 9))), ((dd 10), .inl (g.2.1, 4, .inl ((d_be da di i pi fo (-1)) 10))), ((dd 11), .inl (g.2.1, 4, .inl ((d_be da di i pi fo (-1)) 11))), ((dd 12), .inl (g.2.1, 4, .inl ((d_be da di i pi fo (-1)) 12))), ((dd 13), .inl (g.2.1, 4, .inl ((d_be da di i pi fo (-1)) 13)))]) rfl ?_
        have hr_9 : r_9 = nI (d_v da) := hr_9
        refine g_goto (tgt := 57) B dX6_begin_49 (by decide) ?_
        subst hr_1
        subst hr_3
        subst hr_6
        subst hr_9
        exact g_iret B hr dX6_begin_57 (Nat.le_of_ble_eq_true rfl) (Nat.le_of_ble_eq_true rfl) () (by first | (simp only [cn, d_begin, if_neg c_2, if_neg c_4, if_neg c_7]; done) | (simp only [cn, d_begin, if_neg c_2, if_neg c_4, if_neg c_7]; rfl) | rfl) [0, 1, 2, 3, 4, 5, 6, 7, 8, 9, 10, 11, 12] rfl (by first | (simp only [cn, d_begin, if_neg c_2, if_neg c_4, if_neg c_7]; rfl) | rfl)
  · skip
    refine g_aload_n B 0 0 dX6_begin_12 rfl rfl ?_
    refine g_iconst (v := 1) B dX6_begin_13 kc_1 ?_
    refine g_cV_i (C := RX6) (T := TX6) (N := 2) (As := [.int 1]) B (m_X6_no l hst g mo (upd th 0 0) dd di sm 1) 5 0 rfl rfl [0] [] (lw_V q1066 q1068 qs15 q38 q1069) nvX6_no rfl rfl (fun _ => rfl) rfl rfl (Nat.le_of_ble_eq_true rfl) dX6_begin_14 ⟨Nat.le_of_ble_eq_true rfl, Nat.le_of_ble_eq_true rfl⟩ ⟨Nat.le_of_ble_eq_true rfl, Nat.le_of_ble_eq_true rfl⟩ (fun r_10 ur_10 hr_10 => ?_)
    refine g_eqw (ws' := [(mo, cO (dd 0) (upd (upd th 0 0) 0 1)), ((dd 0), cD dd di sm), ((dd 3), .inl (g.2.1, 4, .inl (da 3))), ((dd 4), .inl (g.2.1, 4, .inl (da 4))), ((dd 5), .inl (g.2.1, 4, .inl (da 5))), ((dd 6), .inl (g.2.1, 4, .inl (da 6))), ((dd 7), .inl (g.2.1, 4, .inl (da 7))), ((dd 8), .inl (g.2.1, 4, .inl (da 8))), ((dd 9), .inl (g.2.1, 4, .inl (da 9))), ((dd 10), .inl (g.2.1, 4, .inl (da 10))), ((dd 11), .inl (g.2.1, 4, .inl (da 11))), ((dd 12), .inl (g.2.1, 4, .inl (da 12))), ((dd 13), .inl (g.2.1, 4, .inl (da 13)))]) rfl ?_
    have hr_10 : r_10 = 0 := hr_10
    subst hr_1
    subst hr_10
    exact g_iret B hr dX6_begin_17 (Nat.le_of_ble_eq_true rfl) (Nat.le_of_ble_eq_true rfl) () (by first | (simp only [cn, d_begin, if_pos c_2]; done) | (simp only [cn, d_begin, if_pos c_2]; rfl) | rfl) [0, 1, 2, 3, 4, 5, 6, 7, 8, 9, 10, 11, 12] rfl (by first | (simp only [cn, d_begin, if_pos c_2]; rfl) | rfl)

set_option maxHeartbeats 4000000 in
set_option maxRecDepth 100000 in
theorem m_X6_end (l : Launch) (hst : l.stackTraces = false) (g : gG) (mo : Nat) (th : Nat → Int32) (dd : Nat → Nat) (di : Nat → Int32) (sm : Int64) (da : Nat → Nat → Int32) (i : Int32) : gMi l yX6_end cX6_end 3 .int 2 43 0 0 g [(mo, cO (dd 0) th), ((dd 0), cD dd di sm), ((dd 3), .inl (g.2.1, 4, .inl (da 3)))] [.ref mo, .int i] (fun (r : Int32) (_ : Unit) => r = (cn (d_endk i) (da 3 i.toNatClampNeg) 0)) (fun _ : Unit => [(mo, cO (dd 0) (fun _ => (d_endk i))), ((dd 0), cD dd di sm), ((dd 3), .inl (g.2.1, 4, .inl (cn (d_endk i) (d_end (da 3) i.toNatClampNeg) (da 3))))]) := by
  intro sz
  refine g_ent (by decide) hst [(0, .ref mo), (1, .int i)] (Nat.le_of_ble_eq_true rfl) rfl ?_
  intro p e s m below meth c B hr hnm hsz
  have B : gB p l s m ([.ref mo, .int i] : List Value).toArray meth c RX6 cX6_end 3 g (va_A [(mo, cO (dd 0) th), ((dd 0), cD dd di sm), ((dd 3), .inl (g.2.1, 4, .inl (da 3)))] sz) := B
  refine g_aload_n B 0 0 dX6_end_0 rfl rfl ?_
  refine g_iconst (v := 0) B dX6_end_1 kc_0 ?_
  refine g_put (C := RX6) (T := TX6) (N := 2) (ty := .int) (v := .int 0) B 5 0 0 [(mo, cO (dd 0) (upd th 0 0)), ((dd 0), cD dd di sm), ((dd 3), .inl (g.2.1, 4, .inl (da 3)))] in_X6 tyX6 tyX6_ok nmX6 rfl q1048 rfl (Nat.le_of_ble_eq_true rfl) (fun _ h9 => h9) rfl rfl rfl rfl (Nat.le_of_ble_eq_true rfl) rfl dX6_end_2 ?_
  refine g_iload_n B 1 1 dX6_end_5 rfl rfl ?_
  refine g_cuS_i (As := [.int i]) B (m_X6_isVoice l hst g i) [] [] (lw_S q1141 q1142 q38 q1143) nsX6_isVoice rfl rfl rfl rfl (Nat.le_of_ble_eq_true rfl) dX6_end_6 ⟨Nat.le_of_ble_eq_true rfl, Nat.le_of_ble_eq_true rfl⟩ ⟨Nat.le_of_ble_eq_true rfl, Nat.le_of_ble_eq_true rfl⟩ (fun r_1 ur_1 hr_1 => ?_)
  have hr_1 : r_1 = in_z i 0 3 := hr_1
  refine g_if_ne (tgt := 18) B dX6_end_9 (by decide) (fun c_2 => ?_) (fun c_2 => ?_)
  · skip
    obtain ⟨ni, hni, eni⟩ := iz_nat (N := 4) (by rw [← hr_1]; exact c_2) (by decide) (by decide)
    have tni : i.toNatClampNeg = ni := by rw [eni]; exact nI_clamp (by omega)
    refine g_lvq (lv' := [(0, .ref mo), (1, .int (nI ni))]) (by rw [eni]) ?_
    refine g_aload_n B 0 0 dX6_end_18 rfl rfl ?_
    refine g_get (C := RX6) (T := TX6) (N := 2) B 5 0 1 (.ref (dd 0)) in_X6 rfl q1049 rfl (Nat.le_of_ble_eq_true rfl) (fun _ h9 => h9) rfl dX6_end_19 ?_
    refine g_get (C := RX7) (T := TX7) (N := 35) B 6 1 2 (.ref (dd 3)) in_X7 rfl q915 rfl (Nat.le_of_ble_eq_true rfl) (fun _ h9 => h9) rfl dX6_end_22 ?_
    refine g_iload_n B 1 1 dX6_end_25 rfl rfl ?_
    refine g_iald B 2 ni rfl (nI_clamp (by omega)) (vp_in_nI (by omega) (by omega)) dX6_end_26 ?_
    refine g_istore_n B 2 [(2, .int ((da 3) ni)), (0, .ref mo), (1, .int (nI ni))] dX6_end_27 rfl (Nat.le_of_ble_eq_true rfl) rfl ?_
    refine g_aload_n B 0 1 dX6_end_28 rfl rfl ?_
    refine g_get (C := RX6) (T := TX6) (N := 2) B 5 0 1 (.ref (dd 0)) in_X6 rfl q1049 rfl (Nat.le_of_ble_eq_true rfl) (fun _ h9 => h9) rfl dX6_end_29 ?_
    refine g_iload_n B 1 2 dX6_end_32 rfl rfl ?_
    refine g_cV_v (C := RX7) (T := TX7) (N := 35) (As := [.int (nI ni)]) B (m_X7_end l hst g dd di sm (da 3) ni (by omega)) 6 0 rfl rfl [1, 2] [] (lw_V q1144 q1145 q1146 q39 q1147) nvX7_end rfl rfl (fun _ => rfl) rfl rfl (Nat.le_of_ble_eq_true rfl) dX6_end_33 ⟨Nat.le_of_ble_eq_true rfl, Nat.le_of_ble_eq_true rfl⟩ ⟨Nat.le_of_ble_eq_true rfl, Nat.le_of_ble_eq_true rfl⟩ (fun ur_3 hr_3 => ?_)
    refine g_eqw (ws' := [(mo, cO (dd 0) (upd th 0 0)), ((dd 0), cD dd di sm), ((dd 3), .inl (g.2.1, 4, .inl (d_end (da 3) ni)))]) rfl ?_
    refine g_iload_n B 2 0 dX6_end_36 rfl rfl ?_
    subst hr_1
    exact g_iret B hr dX6_end_37 (Nat.le_of_ble_eq_true rfl) (Nat.le_of_ble_eq_true rfl) () (by first | (simp only [cn, d_endk, if_neg c_2, tni]; done) | (simp only [cn, d_endk, if_neg c_2, tni]; rfl) | rfl) [0, 1, 2] rfl (by first | (simp only [cn, d_endk, if_neg c_2, tni]; rfl) | rfl)
  · skip
    refine g_aload_n B 0 0 dX6_end_12 rfl rfl ?_
    refine g_iconst (v := 1) B dX6_end_13 kc_1 ?_
    refine g_cV_i (C := RX6) (T := TX6) (N := 2) (As := [.int 1]) B (m_X6_no l hst g mo (upd th 0 0) dd di sm 1) 5 0 rfl rfl [0] [] (lw_V q1066 q1068 qs15 q38 q1069) nvX6_no rfl rfl (fun _ => rfl) rfl rfl (Nat.le_of_ble_eq_true rfl) dX6_end_14 ⟨Nat.le_of_ble_eq_true rfl, Nat.le_of_ble_eq_true rfl⟩ ⟨Nat.le_of_ble_eq_true rfl, Nat.le_of_ble_eq_true rfl⟩ (fun r_4 ur_4 hr_4 => ?_)
    refine g_eqw (ws' := [(mo, cO (dd 0) (upd (upd th 0 0) 0 1)), ((dd 0), cD dd di sm), ((dd 3), .inl (g.2.1, 4, .inl (da 3)))]) rfl ?_
    have hr_4 : r_4 = 0 := hr_4
    subst hr_1
    subst hr_4
    exact g_iret B hr dX6_end_17 (Nat.le_of_ble_eq_true rfl) (Nat.le_of_ble_eq_true rfl) () (by first | (simp only [cn, d_endk, if_pos c_2]; done) | (simp only [cn, d_endk, if_pos c_2]; rfl) | rfl) [0, 1, 2] rfl (by first | (simp only [cn, d_endk, if_pos c_2]; rfl) | rfl)

set_option maxHeartbeats 4000000 in
set_option maxRecDepth 100000 in
theorem m_X6_hush (l : Launch) (hst : l.stackTraces = false) (g : gG) (mo : Nat) (th : Nat → Int32) (dd : Nat → Nat) (di : Nat → Int32) (sm : Int64) (da : Nat → Nat → Int32) : gMi l yX6_hush cX6_hush 3 .int 1 22 0 0 g [(mo, cO (dd 0) th), ((dd 0), cD dd di sm), ((dd 3), .inl (g.2.1, 4, .inl (da 3))), ((dd 4), .inl (g.2.1, 4, .inl (da 4))), ((dd 12), .inl (g.2.1, 4, .inl (da 12)))] [.ref mo] (fun (r : Int32) (_ : Unit) => r = d_snd (da 3)) (fun _ : Unit => [(mo, cO (dd 0) (fun _ => 0)), ((dd 0), cD dd di sm), ((dd 3), .inl (g.2.1, 4, .inl (d_h0 (da 3) 0))), ((dd 4), .inl (g.2.1, 4, .inl (d_h0 (da 4) 0))), ((dd 12), .inl (g.2.1, 4, .inl (d_h0 (da 12) (-1))))]) := by
  intro sz
  refine g_ent (by decide) hst [(0, .ref mo)] (Nat.le_of_ble_eq_true rfl) rfl ?_
  intro p e s m below meth c B hr hnm hsz
  have B : gB p l s m ([.ref mo] : List Value).toArray meth c RX6 cX6_hush 3 g (va_A [(mo, cO (dd 0) th), ((dd 0), cD dd di sm), ((dd 3), .inl (g.2.1, 4, .inl (da 3))), ((dd 4), .inl (g.2.1, 4, .inl (da 4))), ((dd 12), .inl (g.2.1, 4, .inl (da 12)))] sz) := B
  refine g_aload_n B 0 0 dX6_hush_0 rfl rfl ?_
  refine g_iconst (v := 0) B dX6_hush_1 kc_0 ?_
  refine g_put (C := RX6) (T := TX6) (N := 2) (ty := .int) (v := .int 0) B 5 0 0 [(mo, cO (dd 0) (upd th 0 0)), ((dd 0), cD dd di sm), ((dd 3), .inl (g.2.1, 4, .inl (da 3))), ((dd 4), .inl (g.2.1, 4, .inl (da 4))), ((dd 12), .inl (g.2.1, 4, .inl (da 12)))] in_X6 tyX6 tyX6_ok nmX6 rfl q1048 rfl (Nat.le_of_ble_eq_true rfl) (fun _ h9 => h9) rfl rfl rfl rfl (Nat.le_of_ble_eq_true rfl) rfl dX6_hush_2 ?_
  refine g_aload_n B 0 0 dX6_hush_5 rfl rfl ?_
  refine g_get (C := RX6) (T := TX6) (N := 2) B 5 0 1 (.ref (dd 0)) in_X6 rfl q1049 rfl (Nat.le_of_ble_eq_true rfl) (fun _ h9 => h9) rfl dX6_hush_6 ?_
  refine g_cuV_i (C := RX7) (T := TX7) (N := 35) (As := []) B (m_X7_sounding l hst g dd di sm (da 3)) 6 0 rfl rfl [1, 2] [] (lw_V q1153 q1154 q1155 q39 q1156) nvX7_sounding rfl rfl rfl rfl (Nat.le_of_ble_eq_true rfl) dX6_hush_9 ⟨Nat.le_of_ble_eq_true rfl, Nat.le_of_ble_eq_true rfl⟩ ⟨Nat.le_of_ble_eq_true rfl, Nat.le_of_ble_eq_true rfl⟩ (fun r_1 ur_1 hr_1 => ?_)
  have hr_1 : r_1 = d_snd (da 3) := hr_1
  refine g_istore_n B 1 [(1, .int r_1), (0, .ref mo)] dX6_hush_12 rfl (Nat.le_of_ble_eq_true rfl) rfl ?_
  refine g_iconst (v := 0) B dX6_hush_13 kc_0 ?_
  refine g_istore_n B 2 [(2, .int 0), (1, .int r_1), (0, .ref mo)] dX6_hush_14 rfl (Nat.le_of_ble_eq_true rfl) rfl ?_
  refine g_iload_n B 2 0 dX6_hush_15 rfl rfl ?_
  refine g_iconst (v := 4) B dX6_hush_16 kc_4 ?_
  refine g_icmp_ge_F (tgt := 56) B dX6_hush_17 (by decide) (by decide) ?_
  refine g_aload_n B 0 2 dX6_hush_20 rfl rfl ?_
  refine g_get (C := RX6) (T := TX6) (N := 2) B 5 0 1 (.ref (dd 0)) in_X6 rfl q1049 rfl (Nat.le_of_ble_eq_true rfl) (fun _ h9 => h9) rfl dX6_hush_21 ?_
  refine g_get (C := RX7) (T := TX7) (N := 35) B 6 1 2 (.ref (dd 3)) in_X7 rfl q915 rfl (Nat.le_of_ble_eq_true rfl) (fun _ h9 => h9) rfl dX6_hush_24 ?_
  refine g_iload_n B 2 0 dX6_hush_27 rfl rfl ?_
  refine g_iconst (v := 0) B dX6_hush_28 kc_0 ?_
  refine g_iast B 2 0 [(mo, cO (dd 0) (upd th 0 0)), ((dd 0), cD dd di sm), ((dd 3), .inl (g.2.1, 4, .inl (upd (da 3) 0 0))), ((dd 4), .inl (g.2.1, 4, .inl (da 4))), ((dd 12), .inl (g.2.1, 4, .inl (da 12)))] rfl (by decide) (vpc rfl) rfl dX6_hush_29 ?_
  refine g_aload_n B 0 2 dX6_hush_30 rfl rfl ?_
  refine g_get (C := RX6) (T := TX6) (N := 2) B 5 0 1 (.ref (dd 0)) in_X6 rfl q1049 rfl (Nat.le_of_ble_eq_true rfl) (fun _ h9 => h9) rfl dX6_hush_31 ?_
  refine g_get (C := RX7) (T := TX7) (N := 35) B 6 1 3 (.ref (dd 4)) in_X7 rfl q917 rfl (Nat.le_of_ble_eq_true rfl) (fun _ h9 => h9) rfl dX6_hush_34 ?_
  refine g_iload_n B 2 0 dX6_hush_37 rfl rfl ?_
  refine g_iconst (v := 0) B dX6_hush_38 kc_0 ?_
  refine g_iast B 3 0 [(mo, cO (dd 0) (upd th 0 0)), ((dd 0), cD dd di sm), ((dd 3), .inl (g.2.1, 4, .inl (upd (da 3) 0 0))), ((dd 4), .inl (g.2.1, 4, .inl (upd (da 4) 0 0))), ((dd 12), .inl (g.2.1, 4, .inl (da 12)))] rfl (by decide) (vpc rfl) rfl dX6_hush_39 ?_
  refine g_aload_n B 0 2 dX6_hush_40 rfl rfl ?_
  refine g_get (C := RX6) (T := TX6) (N := 2) B 5 0 1 (.ref (dd 0)) in_X6 rfl q1049 rfl (Nat.le_of_ble_eq_true rfl) (fun _ h9 => h9) rfl dX6_hush_41 ?_
  refine g_get (C := RX7) (T := TX7) (N := 35) B 6 1 11 (.ref (dd 12)) in_X7 rfl q933 rfl (Nat.le_of_ble_eq_true rfl) (fun _ h9 => h9) rfl dX6_hush_44 ?_
  refine g_iload_n B 2 0 dX6_hush_47 rfl rfl ?_
  refine g_iconst (v := (-1)) B dX6_hush_48 kc_m1 ?_
  refine g_iast B 4 0 [(mo, cO (dd 0) (upd th 0 0)), ((dd 0), cD dd di sm), ((dd 3), .inl (g.2.1, 4, .inl (upd (da 3) 0 0))), ((dd 4), .inl (g.2.1, 4, .inl (upd (da 4) 0 0))), ((dd 12), .inl (g.2.1, 4, .inl (upd (da 12) 0 (-1))))] rfl (by decide) (vpc rfl) rfl dX6_hush_49 ?_
  refine g_iinc B 0 1 [(2, .int 1), (1, .int r_1), (0, .ref mo)] dX6_hush_50 rfl (by decide) (Nat.le_of_ble_eq_true rfl) rfl ?_
  refine g_goto (tgt := 15) B dX6_hush_53 (by decide) ?_
  refine g_iload_n B 2 0 dX6_hush_15 rfl rfl ?_
  refine g_iconst (v := 4) B dX6_hush_16 kc_4 ?_
  refine g_icmp_ge_F (tgt := 56) B dX6_hush_17 (by decide) (by decide) ?_
  refine g_aload_n B 0 2 dX6_hush_20 rfl rfl ?_
  refine g_get (C := RX6) (T := TX6) (N := 2) B 5 0 1 (.ref (dd 0)) in_X6 rfl q1049 rfl (Nat.le_of_ble_eq_true rfl) (fun _ h9 => h9) rfl dX6_hush_21 ?_
  refine g_get (C := RX7) (T := TX7) (N := 35) B 6 1 2 (.ref (dd 3)) in_X7 rfl q915 rfl (Nat.le_of_ble_eq_true rfl) (fun _ h9 => h9) rfl dX6_hush_24 ?_
  refine g_iload_n B 2 0 dX6_hush_27 rfl rfl ?_
  refine g_iconst (v := 0) B dX6_hush_28 kc_0 ?_
  refine g_iast B 2 1 [(mo, cO (dd 0) (upd th 0 0)), ((dd 0), cD dd di sm), ((dd 3), .inl (g.2.1, 4, .inl (upd (upd (da 3) 0 0) 1 0))), ((dd 4), .inl (g.2.1, 4, .inl (upd (da 4) 0 0))), ((dd 12), .inl (g.2.1, 4, .inl (upd (da 12) 0 (-1))))] rfl (by decide) (vpc rfl) rfl dX6_hush_29 ?_
  refine g_aload_n B 0 2 dX6_hush_30 rfl rfl ?_
  refine g_get (C := RX6) (T := TX6) (N := 2) B 5 0 1 (.ref (dd 0)) in_X6 rfl q1049 rfl (Nat.le_of_ble_eq_true rfl) (fun _ h9 => h9) rfl dX6_hush_31 ?_
  refine g_get (C := RX7) (T := TX7) (N := 35) B 6 1 3 (.ref (dd 4)) in_X7 rfl q917 rfl (Nat.le_of_ble_eq_true rfl) (fun _ h9 => h9) rfl dX6_hush_34 ?_
  refine g_iload_n B 2 0 dX6_hush_37 rfl rfl ?_
  refine g_iconst (v := 0) B dX6_hush_38 kc_0 ?_
  refine g_iast B 3 1 [(mo, cO (dd 0) (upd th 0 0)), ((dd 0), cD dd di sm), ((dd 3), .inl (g.2.1, 4, .inl (upd (upd (da 3) 0 0) 1 0))), ((dd 4), .inl (g.2.1, 4, .inl (upd (upd (da 4) 0 0) 1 0))), ((dd 12), .inl (g.2.1, 4, .inl (upd (da 12) 0 (-1))))] rfl (by decide) (vpc rfl) rfl dX6_hush_39 ?_
  refine g_aload_n B 0 2 dX6_hush_40 rfl rfl ?_
  refine g_get (C := RX6) (T := TX6) (N := 2) B 5 0 1 (.ref (dd 0)) in_X6 rfl q1049 rfl (Nat.le_of_ble_eq_true rfl) (fun _ h9 => h9) rfl dX6_hush_41 ?_
  refine g_get (C := RX7) (T := TX7) (N := 35) B 6 1 11 (.ref (dd 12)) in_X7 rfl q933 rfl (Nat.le_of_ble_eq_true rfl) (fun _ h9 => h9) rfl dX6_hush_44 ?_
  refine g_iload_n B 2 0 dX6_hush_47 rfl rfl ?_
  refine g_iconst (v := (-1)) B dX6_hush_48 kc_m1 ?_
  refine g_iast B 4 1 [(mo, cO (dd 0) (upd th 0 0)), ((dd 0), cD dd di sm), ((dd 3), .inl (g.2.1, 4, .inl (upd (upd (da 3) 0 0) 1 0))), ((dd 4), .inl (g.2.1, 4, .inl (upd (upd (da 4) 0 0) 1 0))), ((dd 12), .inl (g.2.1, 4, .inl (upd (upd (da 12) 0 (-1)) 1 (-1))))] rfl (by decide) (vpc rfl) rfl dX6_hush_49 ?_
  refine g_iinc B 0 2 [(2, .int 2), (1, .int r_1), (0, .ref mo)] dX6_hush_50 rfl (by decide) (Nat.le_of_ble_eq_true rfl) rfl ?_
  refine g_goto (tgt := 15) B dX6_hush_53 (by decide) ?_
  refine g_iload_n B 2 0 dX6_hush_15 rfl rfl ?_
  refine g_iconst (v := 4) B dX6_hush_16 kc_4 ?_
  refine g_icmp_ge_F (tgt := 56) B dX6_hush_17 (by decide) (by decide) ?_
  refine g_aload_n B 0 2 dX6_hush_20 rfl rfl ?_
  refine g_get (C := RX6) (T := TX6) (N := 2) B 5 0 1 (.ref (dd 0)) in_X6 rfl q1049 rfl (Nat.le_of_ble_eq_true rfl) (fun _ h9 => h9) rfl dX6_hush_21 ?_
  refine g_get (C := RX7) (T := TX7) (N := 35) B 6 1 2 (.ref (dd 3)) in_X7 rfl q915 rfl (Nat.le_of_ble_eq_true rfl) (fun _ h9 => h9) rfl dX6_hush_24 ?_
  refine g_iload_n B 2 0 dX6_hush_27 rfl rfl ?_
  refine g_iconst (v := 0) B dX6_hush_28 kc_0 ?_
  refine g_iast B 2 2 [(mo, cO (dd 0) (upd th 0 0)), ((dd 0), cD dd di sm), ((dd 3), .inl (g.2.1, 4, .inl (upd (upd (upd (da 3) 0 0) 1 0) 2 0))), ((dd 4), .inl (g.2.1, 4, .inl (upd (upd (da 4) 0 0) 1 0))), ((dd 12), .inl (g.2.1, 4, .inl (upd (upd (da 12) 0 (-1)) 1 (-1))))] rfl (by decide) (vpc rfl) rfl dX6_hush_29 ?_
  refine g_aload_n B 0 2 dX6_hush_30 rfl rfl ?_
  refine g_get (C := RX6) (T := TX6) (N := 2) B 5 0 1 (.ref (dd 0)) in_X6 rfl q1049 rfl (Nat.le_of_ble_eq_true rfl) (fun _ h9 => h9) rfl dX6_hush_31 ?_
  refine g_get (C := RX7) (T := TX7) (N := 35) B 6 1 3 (.ref (dd 4)) in_X7 rfl q917 rfl (Nat.le_of_ble_eq_true rfl) (fun _ h9 => h9) rfl dX6_hush_34 ?_
  refine g_iload_n B 2 0 dX6_hush_37 rfl rfl ?_
  refine g_iconst (v := 0) B dX6_hush_38 kc_0 ?_
  refine g_iast B 3 2 [(mo, cO (dd 0) (upd th 0 0)), ((dd 0), cD dd di sm), ((dd 3), .inl (g.2.1, 4, .inl (upd (upd (upd (da 3) 0 0) 1 0) 2 0))), ((dd 4), .inl (g.2.1, 4, .inl (upd (upd (upd (da 4) 0 0) 1 0) 2 0))), ((dd 12), .inl (g.2.1, 4, .inl (upd (upd (da 12) 0 (-1)) 1 (-1))))] rfl (by decide) (vpc rfl) rfl dX6_hush_39 ?_
  refine g_aload_n B 0 2 dX6_hush_40 rfl rfl ?_
  refine g_get (C := RX6) (T := TX6) (N := 2) B 5 0 1 (.ref (dd 0)) in_X6 rfl q1049 rfl (Nat.le_of_ble_eq_true rfl) (fun _ h9 => h9) rfl dX6_hush_41 ?_
  refine g_get (C := RX7) (T := TX7) (N := 35) B 6 1 11 (.ref (dd 12)) in_X7 rfl q933 rfl (Nat.le_of_ble_eq_true rfl) (fun _ h9 => h9) rfl dX6_hush_44 ?_
  refine g_iload_n B 2 0 dX6_hush_47 rfl rfl ?_
  refine g_iconst (v := (-1)) B dX6_hush_48 kc_m1 ?_
  refine g_iast B 4 2 [(mo, cO (dd 0) (upd th 0 0)), ((dd 0), cD dd di sm), ((dd 3), .inl (g.2.1, 4, .inl (upd (upd (upd (da 3) 0 0) 1 0) 2 0))), ((dd 4), .inl (g.2.1, 4, .inl (upd (upd (upd (da 4) 0 0) 1 0) 2 0))), ((dd 12), .inl (g.2.1, 4, .inl (upd (upd (upd (da 12) 0 (-1)) 1 (-1)) 2 (-1))))] rfl (by decide) (vpc rfl) rfl dX6_hush_49 ?_
  refine g_iinc B 0 3 [(2, .int 3), (1, .int r_1), (0, .ref mo)] dX6_hush_50 rfl (by decide) (Nat.le_of_ble_eq_true rfl) rfl ?_
  refine g_goto (tgt := 15) B dX6_hush_53 (by decide) ?_
  refine g_iload_n B 2 0 dX6_hush_15 rfl rfl ?_
  refine g_iconst (v := 4) B dX6_hush_16 kc_4 ?_
  refine g_icmp_ge_F (tgt := 56) B dX6_hush_17 (by decide) (by decide) ?_
  refine g_aload_n B 0 2 dX6_hush_20 rfl rfl ?_
  refine g_get (C := RX6) (T := TX6) (N := 2) B 5 0 1 (.ref (dd 0)) in_X6 rfl q1049 rfl (Nat.le_of_ble_eq_true rfl) (fun _ h9 => h9) rfl dX6_hush_21 ?_
  refine g_get (C := RX7) (T := TX7) (N := 35) B 6 1 2 (.ref (dd 3)) in_X7 rfl q915 rfl (Nat.le_of_ble_eq_true rfl) (fun _ h9 => h9) rfl dX6_hush_24 ?_
  refine g_iload_n B 2 0 dX6_hush_27 rfl rfl ?_
  refine g_iconst (v := 0) B dX6_hush_28 kc_0 ?_
  refine g_iast B 2 3 [(mo, cO (dd 0) (upd th 0 0)), ((dd 0), cD dd di sm), ((dd 3), .inl (g.2.1, 4, .inl (upd (upd (upd (upd (da 3) 0 0) 1 0) 2 0) 3 0))), ((dd 4), .inl (g.2.1, 4, .inl (upd (upd (upd (da 4) 0 0) 1 0) 2 0))), ((dd 12), .inl (g.2.1, 4, .inl (upd (upd (upd (da 12) 0 (-1)) 1 (-1)) 2 (-1))))] rfl (by decide) (vpc rfl) rfl dX6_hush_29 ?_
  refine g_aload_n B 0 2 dX6_hush_30 rfl rfl ?_
  refine g_get (C := RX6) (T := TX6) (N := 2) B 5 0 1 (.ref (dd 0)) in_X6 rfl q1049 rfl (Nat.le_of_ble_eq_true rfl) (fun _ h9 => h9) rfl dX6_hush_31 ?_
  refine g_get (C := RX7) (T := TX7) (N := 35) B 6 1 3 (.ref (dd 4)) in_X7 rfl q917 rfl (Nat.le_of_ble_eq_true rfl) (fun _ h9 => h9) rfl dX6_hush_34 ?_
  refine g_iload_n B 2 0 dX6_hush_37 rfl rfl ?_
  refine g_iconst (v := 0) B dX6_hush_38 kc_0 ?_
  refine g_iast B 3 3 [(mo, cO (dd 0) (upd th 0 0)), ((dd 0), cD dd di sm), ((dd 3), .inl (g.2.1, 4, .inl (upd (upd (upd (upd (da 3) 0 0) 1 0) 2 0) 3 0))), ((dd 4), .inl (g.2.1, 4, .inl (upd (upd (upd (upd (da 4) 0 0) 1 0) 2 0) 3 0))), ((dd 12), .inl (g.2.1, 4, .inl (upd (upd (upd (da 12) 0 (-1)) 1 (-1)) 2 (-1))))] rfl (by decide) (vpc rfl) rfl dX6_hush_39 ?_
  refine g_aload_n B 0 2 dX6_hush_40 rfl rfl ?_
  refine g_get (C := RX6) (T := TX6) (N := 2) B 5 0 1 (.ref (dd 0)) in_X6 rfl q1049 rfl (Nat.le_of_ble_eq_true rfl) (fun _ h9 => h9) rfl dX6_hush_41 ?_
  refine g_get (C := RX7) (T := TX7) (N := 35) B 6 1 11 (.ref (dd 12)) in_X7 rfl q933 rfl (Nat.le_of_ble_eq_true rfl) (fun _ h9 => h9) rfl dX6_hush_44 ?_
  refine g_iload_n B 2 0 dX6_hush_47 rfl rfl ?_
  refine g_iconst (v := (-1)) B dX6_hush_48 kc_m1 ?_
  refine g_iast B 4 3 [(mo, cO (dd 0) (upd th 0 0)), ((dd 0), cD dd di sm), ((dd 3), .inl (g.2.1, 4, .inl (upd (upd (upd (upd (da 3) 0 0) 1 0) 2 0) 3 0))), ((dd 4), .inl (g.2.1, 4, .inl (upd (upd (upd (upd (da 4) 0 0) 1 0) 2 0) 3 0))), ((dd 12), .inl (g.2.1, 4, .inl (upd (upd (upd (upd (da 12) 0 (-1)) 1 (-1)) 2 (-1)) 3 (-1))))] rfl (by decide) (vpc rfl) rfl dX6_hush_49 ?_
  refine g_iinc B 0 4 [(2, .int 4), (1, .int r_1), (0, .ref mo)] dX6_hush_50 rfl (by decide) (Nat.le_of_ble_eq_true rfl) rfl ?_
  refine g_goto (tgt := 15) B dX6_hush_53 (by decide) ?_
  refine g_iload_n B 2 0 dX6_hush_15 rfl rfl ?_
  refine g_iconst (v := 4) B dX6_hush_16 kc_4 ?_
  refine g_icmp_ge_T (tgt := 56) B dX6_hush_17 (by decide) (by decide) ?_
  refine g_iload_n B 1 1 dX6_hush_56 rfl rfl ?_
  subst hr_1
  exact g_iret B hr dX6_hush_57 (Nat.le_of_ble_eq_true rfl) (Nat.le_of_ble_eq_true rfl) () rfl [0, 1, 2, 3, 4] rfl rfl
