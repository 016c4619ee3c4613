/-! contracts: sums -/
set_option maxRecDepth 100000

theorem nvX1_add : yX1_add.cls = RX1 ∧ yX1_add.cls ≠ "java/lang/invoke/MethodHandle" ∧ yX1_add.cls ≠ "java/lang/invoke/VarHandle" ∧ (parseMethodDescriptor yX1_add.desc).map (fun d => d.parameters.length) = some 1 := by decide +kernel
set_option maxHeartbeats 4000000 in
set_option maxRecDepth 100000 in
theorem m_X1_add (l : Launch) (hst : l.stackTraces = false) (g : gG) (ad : Nat → Nat) (e0 : Nat) (mi : Nat → Int32) (lo su : Int64) (x : Int32) : gMv l yX1_add cX1_add 2 0 0 0 0 g [((ad 0), cM ad e0 mi lo su)] [.ref (ad 0), .int x] (fun (_ : Unit) => True) (fun _ : Unit => [((ad 0), cM ad e0 mi lo (dg su x))]) := by
  intro sz
  refine g_ent (by decide) hst [(0, .ref (ad 0)), (1, .int x)] (Nat.le_of_ble_eq_true rfl) rfl ?_
  intro p e s m below meth c B hr hnm hsz
  have B : gB p l s m ([.ref (ad 0), .int x] : List Value).toArray meth c RX1 cX1_add 2 g (va_A [((ad 0), cM ad e0 mi lo su)] sz) := B
  refine g_aload_n B 0 0 dX1_add_0 rfl rfl ?_
  refine g_aload_n B 0 0 dX1_add_1 rfl rfl ?_
  refine g_get (C := RX1) (T := TX1) (N := 17) B 0 0 16 (.long su) in_X1 rfl q366 rfl (Nat.le_of_ble_eq_true rfl) (fun _ h9 => h9) rfl dX1_add_2 ?_
  refine g_ldc2 (v := 31) B dX1_add_5 q575 ?_
  refine g_lmul B dX1_add_8 ?_
  refine g_iload_n B 1 1 dX1_add_9 rfl rfl ?_
  refine g_i2l B dX1_add_10 ?_
  refine g_ladd B dX1_add_11 ?_
  refine g_topl (fun x_1 ex_1 => ?_)
  refine g_put (C := RX1) (T := TX1) (N := 17) (ty := .long) (v := .long x_1) B 0 0 16 [((ad 0), cM ad e0 mi lo x_1)] in_X1 tyX1 tyX1_ok nmX1 rfl q366 rfl (Nat.le_of_ble_eq_true rfl) (fun _ h9 => h9) rfl rfl rfl rfl (Nat.le_of_ble_eq_true rfl) rfl dX1_add_12 ?_
  subst ex_1
  exact g_vret B hr dX1_add_15 (Nat.le_of_ble_eq_true rfl) (Nat.le_of_ble_eq_true rfl) () trivial [0] rfl rfl

set_option maxHeartbeats 4000000 in
set_option maxRecDepth 100000 in
theorem m_X1_addAll (l : Launch) (hst : l.stackTraces = false) (g : gG) (ad : Nat → Nat) (e0 : Nat) (mi : Nat → Int32) (lo su : Int64) (h1 n : Nat) (f : Nat → Int32) (hn : n ≤ 8) : gMv l yX1_addAll cX1_addAll 6 1 21 0 0 g [((ad 0), cM ad e0 mi lo su), (h1, .inl (g.2.1, n, .inl f))] [.ref (ad 0), .ref h1] (fun (_ : Unit) => True) (fun _ : Unit => [((ad 0), cM ad e0 mi lo (dgN f su n)), (h1, .inl (g.2.1, n, .inl f))]) := by
  intro sz
  refine g_ent (by decide) hst [(0, .ref (ad 0)), (1, .ref h1)] (Nat.le_of_ble_eq_true rfl) rfl ?_
  intro p e s m below meth c B hr hnm hsz
  have B : gB p l s m ([.ref (ad 0), .ref h1] : List Value).toArray meth c RX1 cX1_addAll 6 g (va_A [((ad 0), cM ad e0 mi lo su), (h1, .inl (g.2.1, n, .inl f))] sz) := B
  refine g_aload_n B 1 1 dX1_addAll_0 rfl rfl ?_
  refine g_astore_n B 2 [(2, .ref h1), (0, .ref (ad 0)), (1, .ref h1)] dX1_addAll_1 rfl (Nat.le_of_ble_eq_true rfl) rfl ?_
  refine g_aload_n B 2 0 dX1_addAll_2 rfl rfl ?_
  refine g_alen B 1 (nI n) rfl rfl dX1_addAll_3 ?_
  refine g_istore_n B 3 [(3, .int (nI n)), (2, .ref h1), (0, .ref (ad 0)), (1, .ref h1)] dX1_addAll_4 rfl (Nat.le_of_ble_eq_true rfl) rfl ?_
  refine g_iconst (v := 0) B dX1_addAll_5 kc_0 ?_
  refine g_istore B [(4, .int 0), (3, .int (nI n)), (2, .ref h1), (0, .ref (ad 0)), (1, .ref h1)] dX1_addAll_6 (Nat.le_of_ble_eq_true rfl) rfl ?_
  refine g_lvq (lv' := [(4, .int (nI 0)), (3, .int (nI n)), (2, .ref h1), (0, .ref (ad 0)), (1, .ref h1)]) (by first | rfl | (rw [nI_0])) ?_
  refine g_eqw (ws' := [((ad 0), cM ad e0 mi lo (dgN f su 0)), (h1, .inl (g.2.1, n, .inl f))]) (by simp only [dgN_0]) ?_
  refine g_loop (P := fun t_1 => gW p l e (gRm 1 21 0 0) s m ([.ref (ad 0), .ref h1] : List Value).toArray below meth c (MQ below (va_Qv (fun (_ : Unit) => True) (fun u t => gE g (va_A [((ad 0), cM ad e0 mi lo su), (h1, .inl (g.2.1, n, .inl f))] sz) ((fun _ : Unit => [((ad 0), cM ad e0 mi lo (dgN f su n)), (h1, .inl (g.2.1, n, .inl f))]) u) t) (va_A [((ad 0), cM ad e0 mi lo su), (h1, .inl (g.2.1, n, .inl f))] sz)) ([.ref (ad 0), .ref h1] : List Value).toArray s 0 0 (va_A [((ad 0), cM ad e0 mi lo su), (h1, .inl (g.2.1, n, .inl f))] sz)) 6 g (va_A [((ad 0), cM ad e0 mi lo su), (h1, .inl (g.2.1, n, .inl f))] sz) [((ad 0), cM ad e0 mi lo (dgN f su t_1)), (h1, .inl (g.2.1, n, .inl f))] [(4, .int (nI t_1)), (3, .int (nI n)), (2, .ref h1), (0, .ref (ad 0)), (1, .ref h1)] [] 8 0 0) n (fun t_1 ht_1 iht_1  => ?_) ?_
  · skip
    refine g_iload B 0 dX1_addAll_8 rfl ?_
    refine g_iload_n B 3 1 dX1_addAll_10 rfl rfl ?_
    refine g_icmp_ge_F (tgt := 32) B dX1_addAll_11 (by decide) (nI_ge ht_1 (by omega) : ¬ nI n ≤ nI t_1) ?_
    refine g_aload_n B 2 2 dX1_addAll_14 rfl rfl ?_
    refine g_iload B 0 dX1_addAll_15 rfl ?_
    refine g_iald B 1 t_1 rfl (nI_clamp (by omega)) (vp_in_nI (by omega) (by omega)) dX1_addAll_17 ?_
    refine g_istore B [(5, .int (f t_1)), (4, .int (nI t_1)), (3, .int (nI n)), (2, .ref h1), (0, .ref (ad 0)), (1, .ref h1)] dX1_addAll_18 (Nat.le_of_ble_eq_true rfl) rfl ?_
    refine g_aload_n B 0 4 dX1_addAll_20 rfl rfl ?_
    refine g_iload B 0 dX1_addAll_21 rfl ?_
    refine g_cV_v (C := RX1) (T := TX1) (N := 17) (As := [.int (f t_1)]) B (m_X1_add l hst g ad e0 mi lo (dgN f su t_1) (f t_1)) 0 0 rfl rfl [0] [] (lw_V q571 q573 qs9 q26 q574) nvX1_add rfl rfl (fun _ => by simp only [List.length_cons, List.length_nil, List.take_succ_cons, List.take_zero, List.map_cons, List.map_nil]) rfl rfl (Nat.le_of_ble_eq_true rfl) dX1_addAll_23 ⟨Nat.le_of_ble_eq_true rfl, Nat.le_of_ble_eq_true rfl⟩ ⟨Nat.le_of_ble_eq_true rfl, Nat.le_of_ble_eq_true rfl⟩ (fun ur_2 hr_2 => ?_)
    refine g_eqw (ws' := [((ad 0), cM ad e0 mi lo (dg (dgN f su t_1) (f t_1))), (h1, .inl (g.2.1, n, .inl f))]) rfl ?_
    refine g_iinc B 1 (nI (t_1 + 1)) [(4, .int (nI (t_1 + 1))), (5, .int (f t_1)), (3, .int (nI n)), (2, .ref h1), (0, .ref (ad 0)), (1, .ref h1)] dX1_addAll_26 rfl (by rw [kc_1]; exact nI_1 t_1) (Nat.le_of_ble_eq_true rfl) rfl ?_
    refine g_goto (tgt := 8) B dX1_addAll_29 (by decide) ?_
    refine g_lv (lv' := [(4, .int (nI (t_1 + 1))), (3, .int (nI n)), (2, .ref h1), (0, .ref (ad 0)), (1, .ref h1)]) [0, 2, 3, 4, 5] rfl ?_
    refine g_eqw (ws' := [((ad 0), cM ad e0 mi lo (dgN f su (t_1 + 1))), (h1, .inl (g.2.1, n, .inl f))]) (by simp only [dgN_s _ _ t_1]) ?_
    exact iht_1
  · skip
    refine g_iload B 0 dX1_addAll_8 rfl ?_
    refine g_iload_n B 3 1 dX1_addAll_10 rfl rfl ?_
    refine g_icmp_ge_T (tgt := 32) B dX1_addAll_11 (by decide) (nI_le (Nat.le_refl n) (by omega) : nI n ≤ nI n) ?_
    exact g_vret B hr dX1_addAll_32 (Nat.le_of_ble_eq_true rfl) (Nat.le_of_ble_eq_true rfl) () trivial [0, 1] rfl rfl
