/-! contracts: the engine, what a voice gives -/
set_option maxRecDepth 100000
theorem kb_100 : (Int8.ofInt 100).toInt32 = 100 := by decide
theorem nsJ4_floorMod : yJ4_floorMod.cls ≠ "java/lang/invoke/MethodHandle" ∧ yJ4_floorMod.cls ≠ "java/lang/invoke/VarHandle" ∧ (parseMethodDescriptor yJ4_floorMod.desc).map (fun d => d.parameters.length) = some 2 := by decide +kernel
theorem nsX1_strideOf : yX1_strideOf.cls ≠ "java/lang/invoke/MethodHandle" ∧ yX1_strideOf.cls ≠ "java/lang/invoke/VarHandle" ∧ (parseMethodDescriptor yX1_strideOf.desc).map (fun d => d.parameters.length) = some 1 := by decide +kernel
theorem nsX1_waveAt : yX1_waveAt.cls ≠ "java/lang/invoke/MethodHandle" ∧ yX1_waveAt.cls ≠ "java/lang/invoke/VarHandle" ∧ (parseMethodDescriptor yX1_waveAt.desc).map (fun d => d.parameters.length) = some 2 := by decide +kernel
theorem nvX2_next : yX2_next.cls = RX2 ∧ yX2_next.cls ≠ "java/lang/invoke/MethodHandle" ∧ yX2_next.cls ≠ "java/lang/invoke/VarHandle" ∧ (parseMethodDescriptor yX2_next.desc).map (fun d => d.parameters.length) = some 0 := by decide +kernel
theorem nvX5_begin : yX5_begin.cls = RX5 ∧ yX5_begin.cls ≠ "java/lang/invoke/MethodHandle" ∧ yX5_begin.cls ≠ "java/lang/invoke/VarHandle" ∧ (parseMethodDescriptor yX5_begin.desc).map (fun d => d.parameters.length) = some 5 := by decide +kernel
theorem nvX5_filtered : yX5_filtered.cls = RX5 ∧ yX5_filtered.cls ≠ "java/lang/invoke/MethodHandle" ∧ yX5_filtered.cls ≠ "java/lang/invoke/VarHandle" ∧ (parseMethodDescriptor yX5_filtered.desc).map (fun d => d.parameters.length) = some 2 := by decide +kernel
theorem nvX5_grow : yX5_grow.cls = RX5 ∧ yX5_grow.cls ≠ "java/lang/invoke/MethodHandle" ∧ yX5_grow.cls ≠ "java/lang/invoke/VarHandle" ∧ (parseMethodDescriptor yX5_grow.desc).map (fun d => d.parameters.length) = some 1 := by decide +kernel
set_option maxHeartbeats 4000000 in
set_option maxRecDepth 100000 in
theorem m_X2_sounding (l : Launch) (hst : l.stackTraces = false) (g : gG) (ad ed : Nat → Nat) (en : Nat → Int32) (vf : Nat → Nat → Int32) : gMi l yX2_sounding cX2_sounding 3 .int 3 64 0 0 g [((ed 0), cE (ed 1) (ed 7) (ad 0) en), ((ed 1), cA (ed 2) al4), ((ed 2), .inl (g.2.2.1, 10, .inr (.inr (.inr (.inr (vq ed)))))), ((ed 3), cV (vf 0)), ((ed 4), cV (vf 1)), ((ed 5), cV (vf 2)), ((ed 6), cV (vf 3))] [.ref (ed 0)] (fun (r : Int32) (_ : Unit) => r = v_snd vf) (fun _ : Unit => [((ed 0), cE (ed 1) (ed 7) (ad 0) en), ((ed 1), cA (ed 2) al4), ((ed 2), .inl (g.2.2.1, 10, .inr (.inr (.inr (.inr (vq ed)))))), ((ed 3), cV (vf 0)), ((ed 4), cV (vf 1)), ((ed 5), cV (vf 2)), ((ed 6), cV (vf 3))]) := by
  intro sz
  refine g_ent (by decide) hst [(0, .ref (ed 0))] (Nat.le_of_ble_eq_true rfl) rfl ?_
  intro p e s m below meth c B hr hnm hsz
  have B : gB p l s m ([.ref (ed 0)] : List Value).toArray meth c RX2 cX2_sounding 3 g (va_A [((ed 0), cE (ed 1) (ed 7) (ad 0) en), ((ed 1), cA (ed 2) al4), ((ed 2), .inl (g.2.2.1, 10, .inr (.inr (.inr (.inr (vq ed)))))), ((ed 3), cV (vf 0)), ((ed 4), cV (vf 1)), ((ed 5), cV (vf 2)), ((ed 6), cV (vf 3))] sz) := B
  refine g_iconst (v := 0) B dX2_sounding_0 kc_0 ?_
  refine g_istore_n B 1 [(1, .int 0), (0, .ref (ed 0))] dX2_sounding_1 rfl (Nat.le_of_ble_eq_true rfl) rfl ?_
  refine g_iconst (v := 0) B dX2_sounding_2 kc_0 ?_
  refine g_istore_n B 2 [(2, .int 0), (1, .int 0), (0, .ref (ed 0))] dX2_sounding_3 rfl (Nat.le_of_ble_eq_true rfl) rfl ?_
  refine g_iload_n B 2 0 dX2_sounding_4 rfl rfl ?_
  refine g_iconst (v := 4) B dX2_sounding_5 kc_4 ?_
  refine g_icmp_ge_F (tgt := 40) B dX2_sounding_6 (by decide) (by decide) ?_
  refine g_iload_n B 1 1 dX2_sounding_9 rfl rfl ?_
  refine g_aload_n B 0 2 dX2_sounding_10 rfl rfl ?_
  refine g_get (C := RX2) (T := TX2) (N := 12) B 1 0 0 (.ref (ed 1)) in_X2 rfl q92 rfl (Nat.le_of_ble_eq_true rfl) (fun _ h9 => h9) rfl dX2_sounding_11 ?_
  refine g_iload_n B 2 0 dX2_sounding_14 rfl rfl ?_
  refine g_cuV_q (C := RJ2) (T := TJ2) (N := 3) (As := [.int 0]) B (m_J2_get l hst g (ed 1) (ed 2) al4 10 (vq ed) 0 0 (ed 3) (by decide) (by decide) (by decide) (vpc rfl) rfl) 7 0 rfl rfl [1, 2] [.int 0] (lw_V q410 q411 q412 q29 q413) nvJ2_get rfl rfl rfl rfl (Nat.le_of_ble_eq_true rfl) dX2_sounding_15 ⟨Nat.le_of_ble_eq_true rfl, Nat.le_of_ble_eq_true rfl⟩ ⟨Nat.le_of_ble_eq_true rfl, Nat.le_of_ble_eq_true rfl⟩ (fun r_1 ur_1 hr_1 => ?_)
  obtain rfl : some (ed 3) = r_1 := (hr_1).symm
  refine g_eqs (st' := [.ref (ed 3), .int 0]) rfl ?_
  refine g_cast (C := RX5) (T := TX5) (N := 11) B 4 3 q424 rfl rfl dX2_sounding_18 ?_
  refine g_cuV_i (C := RX5) (T := TX5) (N := 11) (As := []) B (m_X5_isFree l hst g (ed 3) (vf 0)) 4 0 rfl rfl [3] [.int 0] (lw_V q425 q426 q427 q37 q428) nvX5_isFree rfl rfl rfl rfl (Nat.le_of_ble_eq_true rfl) dX2_sounding_21 ⟨Nat.le_of_ble_eq_true rfl, Nat.le_of_ble_eq_true rfl⟩ ⟨Nat.le_of_ble_eq_true rfl, Nat.le_of_ble_eq_true rfl⟩ (fun r_2 ur_2 hr_2 => ?_)
  have hr_2 : r_2 = (v_free (vf 0)) := hr_2
  have j_4 : ∀ (x_5 : Int32), x_5 = v_s1 (vf 0) → gW p l e (gRm 3 64 0 0) s m ([.ref (ed 0)] : List Value).toArray below meth c (MQ below (va_Qi (fun (r : Int32) (_ : Unit) => r = v_snd vf) (fun u t => gE g (va_A [((ed 0), cE (ed 1) (ed 7) (ad 0) en), ((ed 1), cA (ed 2) al4), ((ed 2), .inl (g.2.2.1, 10, .inr (.inr (.inr (.inr (vq ed)))))), ((ed 3), cV (vf 0)), ((ed 4), cV (vf 1)), ((ed 5), cV (vf 2)), ((ed 6), cV (vf 3))] sz) ((fun _ : Unit => [((ed 0), cE (ed 1) (ed 7) (ad 0) en), ((ed 1), cA (ed 2) al4), ((ed 2), .inl (g.2.2.1, 10, .inr (.inr (.inr (.inr (vq ed)))))), ((ed 3), cV (vf 0)), ((ed 4), cV (vf 1)), ((ed 5), cV (vf 2)), ((ed 6), cV (vf 3))]) u) t) (va_A [((ed 0), cE (ed 1) (ed 7) (ad 0) en), ((ed 1), cA (ed 2) al4), ((ed 2), .inl (g.2.2.1, 10, .inr (.inr (.inr (.inr (vq ed)))))), ((ed 3), cV (vf 0)), ((ed 4), cV (vf 1)), ((ed 5), cV (vf 2)), ((ed 6), cV (vf 3))] sz)) ([.ref (ed 0)] : List Value).toArray s 0 0 (va_A [((ed 0), cE (ed 1) (ed 7) (ad 0) en), ((ed 1), cA (ed 2) al4), ((ed 2), .inl (g.2.2.1, 10, .inr (.inr (.inr (.inr (vq ed)))))), ((ed 3), cV (vf 0)), ((ed 4), cV (vf 1)), ((ed 5), cV (vf 2)), ((ed 6), cV (vf 3))] sz)) 3 g (va_A [((ed 0), cE (ed 1) (ed 7) (ad 0) en), ((ed 1), cA (ed 2) al4), ((ed 2), .inl (g.2.2.1, 10, .inr (.inr (.inr (.inr (vq ed)))))), ((ed 3), cV (vf 0)), ((ed 4), cV (vf 1)), ((ed 5), cV (vf 2)), ((ed 6), cV (vf 3))] sz) [((ed 0), cE (ed 1) (ed 7) (ad 0) en), ((ed 1), cA (ed 2) al4), ((ed 2), .inl (g.2.2.1, 10, .inr (.inr (.inr (.inr (vq ed)))))), ((ed 3), cV (vf 0)), ((ed 4), cV (vf 1)), ((ed 5), cV (vf 2)), ((ed 6), cV (vf 3))] [(2, .int 0), (1, .int 0), (0, .ref (ed 0))] [.int x_5, .int 0] 32 0 0 := by
    intro x_5 ex_5
    refine g_iadd B dX2_sounding_32 ?_
    refine g_istore_n B 1 [(1, .int (0 + x_5)), (2, .int 0), (0, .ref (ed 0))] dX2_sounding_33 rfl (Nat.le_of_ble_eq_true rfl) rfl ?_
    refine g_iinc B 1 1 [(2, .int 1), (1, .int (0 + x_5)), (0, .ref (ed 0))] dX2_sounding_34 rfl (by decide) (Nat.le_of_ble_eq_true rfl) rfl ?_
    refine g_goto (tgt := 4) B dX2_sounding_37 (by decide) ?_
    refine g_iload_n B 2 0 dX2_sounding_4 rfl rfl ?_
    refine g_iconst (v := 4) B dX2_sounding_5 kc_4 ?_
    refine g_icmp_ge_F (tgt := 40) B dX2_sounding_6 (by decide) (by decide) ?_
    refine g_iload_n B 1 1 dX2_sounding_9 rfl rfl ?_
    refine g_aload_n B 0 2 dX2_sounding_10 rfl rfl ?_
    refine g_get (C := RX2) (T := TX2) (N := 12) B 1 0 0 (.ref (ed 1)) in_X2 rfl q92 rfl (Nat.le_of_ble_eq_true rfl) (fun _ h9 => h9) rfl dX2_sounding_11 ?_
    refine g_iload_n B 2 0 dX2_sounding_14 rfl rfl ?_
    refine g_cuV_q (C := RJ2) (T := TJ2) (N := 3) (As := [.int 1]) B (m_J2_get l hst g (ed 1) (ed 2) al4 10 (vq ed) 1 1 (ed 4) (by decide) (by decide) (by decide) (vpc rfl) rfl) 7 0 rfl rfl [1, 2] [.int (0 + x_5)] (lw_V q410 q411 q412 q29 q413) nvJ2_get rfl rfl rfl rfl (Nat.le_of_ble_eq_true rfl) dX2_sounding_15 ⟨Nat.le_of_ble_eq_true rfl, Nat.le_of_ble_eq_true rfl⟩ ⟨Nat.le_of_ble_eq_true rfl, Nat.le_of_ble_eq_true rfl⟩ (fun r_6 ur_6 hr_6 => ?_)
    obtain rfl : some (ed 4) = r_6 := (hr_6).symm
    refine g_eqs (st' := [.ref (ed 4), .int (0 + x_5)]) rfl ?_
    refine g_cast (C := RX5) (T := TX5) (N := 11) B 4 4 q424 rfl rfl dX2_sounding_18 ?_
    refine g_cuV_i (C := RX5) (T := TX5) (N := 11) (As := []) B (m_X5_isFree l hst g (ed 4) (vf 1)) 4 0 rfl rfl [4] [.int (0 + x_5)] (lw_V q425 q426 q427 q37 q428) nvX5_isFree rfl rfl rfl rfl (Nat.le_of_ble_eq_true rfl) dX2_sounding_21 ⟨Nat.le_of_ble_eq_true rfl, Nat.le_of_ble_eq_true rfl⟩ ⟨Nat.le_of_ble_eq_true rfl, Nat.le_of_ble_eq_true rfl⟩ (fun r_7 ur_7 hr_7 => ?_)
    have hr_7 : r_7 = (v_free (vf 1)) := hr_7
    have j_9 : ∀ (x_10 : Int32), x_10 = v_s1 (vf 1) → gW p l e (gRm 3 64 0 0) s m ([.ref (ed 0)] : List Value).toArray below meth c (MQ below (va_Qi (fun (r : Int32) (_ : Unit) => r = v_snd vf) (fun u t => gE g (va_A [((ed 0), cE (ed 1) (ed 7) (ad 0) en), ((ed 1), cA (ed 2) al4), ((ed 2), .inl (g.2.2.1, 10, .inr (.inr (.inr (.inr (vq ed)))))), ((ed 3), cV (vf 0)), ((ed 4), cV (vf 1)), ((ed 5), cV (vf 2)), ((ed 6), cV (vf 3))] sz) ((fun _ : Unit => [((ed 0), cE (ed 1) (ed 7) (ad 0) en), ((ed 1), cA (ed 2) al4), ((ed 2), .inl (g.2.2.1, 10, .inr (.inr (.inr (.inr (vq ed)))))), ((ed 3), cV (vf 0)), ((ed 4), cV (vf 1)), ((ed 5), cV (vf 2)), ((ed 6), cV (vf 3))]) u) t) (va_A [((ed 0), cE (ed 1) (ed 7) (ad 0) en), ((ed 1), cA (ed 2) al4), ((ed 2), .inl (g.2.2.1, 10, .inr (.inr (.inr (.inr (vq ed)))))), ((ed 3), cV (vf 0)), ((ed 4), cV (vf 1)), ((ed 5), cV (vf 2)), ((ed 6), cV (vf 3))] sz)) ([.ref (ed 0)] : List Value).toArray s 0 0 (va_A [((ed 0), cE (ed 1) (ed 7) (ad 0) en), ((ed 1), cA (ed 2) al4), ((ed 2), .inl (g.2.2.1, 10, .inr (.inr (.inr (.inr (vq ed)))))), ((ed 3), cV (vf 0)), ((ed 4), cV (vf 1)), ((ed 5), cV (vf 2)), ((ed 6), cV (vf 3))] sz)) 3 g (va_A [((ed 0), cE (ed 1) (ed 7) (ad 0) en), ((ed 1), cA (ed 2) al4), ((ed 2), .inl (g.2.2.1, 10, .inr (.inr (.inr (.inr (vq ed)))))), ((ed 3), cV (vf 0)), ((ed 4), cV (vf 1)), ((ed 5), cV (vf 2)), ((ed 6), cV (vf 3))] sz) [((ed 0), cE (ed 1) (ed 7) (ad 0) en), ((ed 1), cA (ed 2) al4), ((ed 2), .inl (g.2.2.1, 10, .inr (.inr (.inr (.inr (vq ed)))))), ((ed 3), cV (vf 0)), ((ed 4), cV (vf 1)), ((ed 5), cV (vf 2)), ((ed 6), cV (vf 3))] [(2, .int 1), (1, .int (0 + x_5)), (0, .ref (ed 0))] [.int x_10, .int (0 + x_5)] 32 0 0 := by
      intro x_10 ex_10
      refine g_iadd B dX2_sounding_32 ?_
      refine g_topi (fun x_11 ex_11 => ?_)
      refine g_istore_n B 1 [(1, .int x_11), (2, .int 1), (0, .ref (ed 0))] dX2_sounding_33 rfl (Nat.le_of_ble_eq_true rfl) rfl ?_
      refine g_iinc B 1 2 [(2, .int 2), (1, .int x_11), (0, .ref (ed 0))] dX2_sounding_34 rfl (by decide) (Nat.le_of_ble_eq_true rfl) rfl ?_
      refine g_goto (tgt := 4) B dX2_sounding_37 (by decide) ?_
      refine g_iload_n B 2 0 dX2_sounding_4 rfl rfl ?_
      refine g_iconst (v := 4) B dX2_sounding_5 kc_4 ?_
      refine g_icmp_ge_F (tgt := 40) B dX2_sounding_6 (by decide) (by decide) ?_
      refine g_iload_n B 1 1 dX2_sounding_9 rfl rfl ?_
      refine g_aload_n B 0 2 dX2_sounding_10 rfl rfl ?_
      refine g_get (C := RX2) (T := TX2) (N := 12) B 1 0 0 (.ref (ed 1)) in_X2 rfl q92 rfl (Nat.le_of_ble_eq_true rfl) (fun _ h9 => h9) rfl dX2_sounding_11 ?_
      refine g_iload_n B 2 0 dX2_sounding_14 rfl rfl ?_
      refine g_cuV_q (C := RJ2) (T := TJ2) (N := 3) (As := [.int 2]) B (m_J2_get l hst g (ed 1) (ed 2) al4 10 (vq ed) 2 2 (ed 5) (by decide) (by decide) (by decide) (vpc rfl) rfl) 7 0 rfl rfl [1, 2] [.int x_11] (lw_V q410 q411 q412 q29 q413) nvJ2_get rfl rfl rfl rfl (Nat.le_of_ble_eq_true rfl) dX2_sounding_15 ⟨Nat.le_of_ble_eq_true rfl, Nat.le_of_ble_eq_true rfl⟩ ⟨Nat.le_of_ble_eq_true rfl, Nat.le_of_ble_eq_true rfl⟩ (fun r_12 ur_12 hr_12 => ?_)
      obtain rfl : some (ed 5) = r_12 := (hr_12).symm
      refine g_eqs (st' := [.ref (ed 5), .int x_11]) rfl ?_
      refine g_cast (C := RX5) (T := TX5) (N := 11) B 4 5 q424 rfl rfl dX2_sounding_18 ?_
      refine g_cuV_i (C := RX5) (T := TX5) (N := 11) (As := []) B (m_X5_isFree l hst g (ed 5) (vf 2)) 4 0 rfl rfl [5] [.int x_11] (lw_V q425 q426 q427 q37 q428) nvX5_isFree rfl rfl rfl rfl (Nat.le_of_ble_eq_true rfl) dX2_sounding_21 ⟨Nat.le_of_ble_eq_true rfl, Nat.le_of_ble_eq_true rfl⟩ ⟨Nat.le_of_ble_eq_true rfl, Nat.le_of_ble_eq_true rfl⟩ (fun r_13 ur_13 hr_13 => ?_)
      have hr_13 : r_13 = (v_free (vf 2)) := hr_13
      have j_15 : ∀ (x_16 : Int32), x_16 = v_s1 (vf 2) → gW p l e (gRm 3 64 0 0) s m ([.ref (ed 0)] : List Value).toArray below meth c (MQ below (va_Qi (fun (r : Int32) (_ : Unit) => r = v_snd vf) (fun u t => gE g (va_A [((ed 0), cE (ed 1) (ed 7) (ad 0) en), ((ed 1), cA (ed 2) al4), ((ed 2), .inl (g.2.2.1, 10, .inr (.inr (.inr (.inr (vq ed)))))), ((ed 3), cV (vf 0)), ((ed 4), cV (vf 1)), ((ed 5), cV (vf 2)), ((ed 6), cV (vf 3))] sz) ((fun _ : Unit => [((ed 0), cE (ed 1) (ed 7) (ad 0) en), ((ed 1), cA (ed 2) al4), ((ed 2), .inl (g.2.2.1, 10, .inr (.inr (.inr (.inr (vq ed)))))), ((ed 3), cV (vf 0)), ((ed 4), cV (vf 1)), ((ed 5), cV (vf 2)), ((ed 6), cV (vf 3))]) u) t) (va_A [((ed 0), cE (ed 1) (ed 7) (ad 0) en), ((ed 1), cA (ed 2) al4), ((ed 2), .inl (g.2.2.1, 10, .inr (.inr (.inr (.inr (vq ed)))))), ((ed 3), cV (vf 0)), ((ed 4), cV (vf 1)), ((ed 5), cV (vf 2)), ((ed 6), cV (vf 3))] sz)) ([.ref (ed 0)] : List Value).toArray s 0 0 (va_A [((ed 0), cE (ed 1) (ed 7) (ad 0) en), ((ed 1), cA (ed 2) al4), ((ed 2), .inl (g.2.2.1, 10, .inr (.inr (.inr (.inr (vq ed)))))), ((ed 3), cV (vf 0)), ((ed 4), cV (vf 1)), ((ed 5), cV (vf 2)), ((ed 6), cV (vf 3))] sz)) 3 g (va_A [((ed 0), cE (ed 1) (ed 7) (ad 0) en), ((ed 1), cA (ed 2) al4), ((ed 2), .inl (g.2.2.1, 10, .inr (.inr (.inr (.inr (vq ed)))))), ((ed 3), cV (vf 0)), ((ed 4), cV (vf 1)), ((ed 5), cV (vf 2)), ((ed 6), cV (vf 3))] sz) [((ed 0), cE (ed 1) (ed 7) (ad 0) en), ((ed 1), cA (ed 2) al4), ((ed 2), .inl (g.2.2.1, 10, .inr (.inr (.inr (.inr (vq ed)))))), ((ed 3), cV (vf 0)), ((ed 4), cV (vf 1)), ((ed 5), cV (vf 2)), ((ed 6), cV (vf 3))] [(2, .int 2), (1, .int x_11), (0, .ref (ed 0))] [.int x_16, .int x_11] 32 0 0 := by
        intro x_16 ex_16
        refine g_iadd B dX2_sounding_32 ?_
        refine g_istore_n B 1 [(1, .int (x_11 + x_16)), (2, .int 2), (0, .ref (ed 0))] dX2_sounding_33 rfl (Nat.le_of_ble_eq_true rfl) rfl ?_
        refine g_iinc B 1 3 [(2, .int 3), (1, .int (x_11 + x_16)), (0, .ref (ed 0))] dX2_sounding_34 rfl (by decide) (Nat.le_of_ble_eq_true rfl) rfl ?_
        refine g_goto (tgt := 4) B dX2_sounding_37 (by decide) ?_
        refine g_iload_n B 2 0 dX2_sounding_4 rfl rfl ?_
        refine g_iconst (v := 4) B dX2_sounding_5 kc_4 ?_
        refine g_icmp_ge_F (tgt := 40) B dX2_sounding_6 (by decide) (by decide) ?_
        refine g_iload_n B 1 1 dX2_sounding_9 rfl rfl ?_
        refine g_aload_n B 0 2 dX2_sounding_10 rfl rfl ?_
        refine g_get (C := RX2) (T := TX2) (N := 12) B 1 0 0 (.ref (ed 1)) in_X2 rfl q92 rfl (Nat.le_of_ble_eq_true rfl) (fun _ h9 => h9) rfl dX2_sounding_11 ?_
        refine g_iload_n B 2 0 dX2_sounding_14 rfl rfl ?_
        refine g_cuV_q (C := RJ2) (T := TJ2) (N := 3) (As := [.int 3]) B (m_J2_get l hst g (ed 1) (ed 2) al4 10 (vq ed) 3 3 (ed 6) (by decide) (by decide) (by decide) (vpc rfl) rfl) 7 0 rfl rfl [1, 2] [.int (x_11 + x_16)] (lw_V q410 q411 q412 q29 q413) nvJ2_get rfl rfl rfl rfl (Nat.le_of_ble_eq_true rfl) dX2_sounding_15 ⟨Nat.le_of_ble_eq_true rfl, Nat.le_of_ble_eq_true rfl⟩ ⟨Nat.le_of_ble_eq_true rfl, Nat.le_of_ble_eq_true rfl⟩ (fun r_17 ur_17 hr_17 => ?_)
        obtain rfl : some (ed 6) = r_17 := (hr_17).symm
        refine g_eqs (st' := [.ref (ed 6), .int (x_11 + x_16)]) rfl ?_
        refine g_cast (C := RX5) (T := TX5) (N := 11) B 4 6 q424 rfl rfl dX2_sounding_18 ?_
        refine g_cuV_i (C := RX5) (T := TX5) (N := 11) (As := []) B (m_X5_isFree l hst g (ed 6) (vf 3)) 4 0 rfl rfl [6] [.int (x_11 + x_16)] (lw_V q425 q426 q427 q37 q428) nvX5_isFree rfl rfl rfl rfl (Nat.le_of_ble_eq_true rfl) dX2_sounding_21 ⟨Nat.le_of_ble_eq_true rfl, Nat.le_of_ble_eq_true rfl⟩ ⟨Nat.le_of_ble_eq_true rfl, Nat.le_of_ble_eq_true rfl⟩ (fun r_18 ur_18 hr_18 => ?_)
        have hr_18 : r_18 = (v_free (vf 3)) := hr_18
        have j_20 : ∀ (x_21 : Int32), x_21 = v_s1 (vf 3) → gW p l e (gRm 3 64 0 0) s m ([.ref (ed 0)] : List Value).toArray below meth c (MQ below (va_Qi (fun (r : Int32) (_ : Unit) => r = v_snd vf) (fun u t => gE g (va_A [((ed 0), cE (ed 1) (ed 7) (ad 0) en), ((ed 1), cA (ed 2) al4), ((ed 2), .inl (g.2.2.1, 10, .inr (.inr (.inr (.inr (vq ed)))))), ((ed 3), cV (vf 0)), ((ed 4), cV (vf 1)), ((ed 5), cV (vf 2)), ((ed 6), cV (vf 3))] sz) ((fun _ : Unit => [((ed 0), cE (ed 1) (ed 7) (ad 0) en), ((ed 1), cA (ed 2) al4), ((ed 2), .inl (g.2.2.1, 10, .inr (.inr (.inr (.inr (vq ed)))))), ((ed 3), cV (vf 0)), ((ed 4), cV (vf 1)), ((ed 5), cV (vf 2)), ((ed 6), cV (vf 3))]) u) t) (va_A [((ed 0), cE (ed 1) (ed 7) (ad 0) en), ((ed 1), cA (ed 2) al4), ((ed 2), .inl (g.2.2.1, 10, .inr (.inr (.inr (.inr (vq ed)))))), ((ed 3), cV (vf 0)), ((ed 4), cV (vf 1)), ((ed 5), cV (vf 2)), ((ed 6), cV (vf 3))] sz)) ([.ref (ed 0)] : List Value).toArray s 0 0 (va_A [((ed 0), cE (ed 1) (ed 7) (ad 0) en), ((ed 1), cA (ed 2) al4), ((ed 2), .inl (g.2.2.1, 10, .inr (.inr (.inr (.inr (vq ed)))))), ((ed 3), cV (vf 0)), ((ed 4), cV (vf 1)), ((ed 5), cV (vf 2)), ((ed 6), cV (vf 3))] sz)) 3 g (va_A [((ed 0), cE (ed 1) (ed 7) (ad 0) en), ((ed 1), cA (ed 2) al4), ((ed 2), .inl (g.2.2.1, 10, .inr (.inr (.inr (.inr (vq ed)))))), ((ed 3), cV (vf 0)), ((ed 4), cV (vf 1)), ((ed 5), cV (vf 2)), ((ed 6), cV (vf 3))] sz) [((ed 0), cE (ed 1) (ed 7) (ad 0) en), ((ed 1), cA (ed 2) al4), ((ed 2), .inl (g.2.2.1, 10, .inr (.inr (.inr (.inr (vq ed)))))), ((ed 3), cV (vf 0)), ((ed 4), cV (vf 1)), ((ed 5), cV (vf 2)), ((ed 6), cV (vf 3))] [(2, .int 3), (1, .int (x_11 + x_16)), (0, .ref (ed 0))] [.int x_21, .int (x_11 + x_16)] 32 0 0 := by
          intro x_21 ex_21
          refine g_iadd B dX2_sounding_32 ?_
          refine g_topi (fun x_22 ex_22 => ?_)
          refine g_istore_n B 1 [(1, .int x_22), (2, .int 3), (0, .ref (ed 0))] dX2_sounding_33 rfl (Nat.le_of_ble_eq_true rfl) rfl ?_
          refine g_iinc B 1 4 [(2, .int 4), (1, .int x_22), (0, .ref (ed 0))] dX2_sounding_34 rfl (by decide) (Nat.le_of_ble_eq_true rfl) rfl ?_
          refine g_goto (tgt := 4) B dX2_sounding_37 (by decide) ?_
          refine g_iload_n B 2 0 dX2_sounding_4 rfl rfl ?_
          refine g_iconst (v := 4) B dX2_sounding_5 kc_4 ?_
          refine g_icmp_ge_T (tgt := 40) B dX2_sounding_6 (by decide) (by decide) ?_
          refine g_iload_n B 1 1 dX2_sounding_40 rfl rfl ?_
          subst hr_2
          subst ex_5
          subst hr_7
          subst ex_10
          subst ex_11
          subst hr_13
          subst ex_16
          subst hr_18
          subst ex_21
          subst ex_22
          exact g_iret B hr dX2_sounding_41 (Nat.le_of_ble_eq_true rfl) (Nat.le_of_ble_eq_true rfl) () rfl [0, 1, 2, 3, 4, 5, 6] rfl rfl
        refine g_if_eq (tgt := 31) B dX2_sounding_24 (by decide) (fun c_19 => ?_) (fun c_19 => ?_)
        · skip
          have c_19f := vfr0 (hr_18 ▸ c_19)
          refine g_iconst (v := 1) B dX2_sounding_31 kc_1 ?_
          exact j_20 _ (by first | rfl | (simp only [v_snd, v_s1, if_neg c_19f]; done) | (simp only [v_snd, v_s1, if_neg c_19f]; rfl))
        · skip
          have c_19f := vfr1 (hr_18 ▸ c_19)
          refine g_iconst (v := 0) B dX2_sounding_27 kc_0 ?_
          refine g_goto (tgt := 32) B dX2_sounding_28 (by decide) ?_
          exact j_20 _ (by first | rfl | (simp only [v_snd, v_s1, if_pos c_19f]; done) | (simp only [v_snd, v_s1, if_pos c_19f]; rfl))
      refine g_if_eq (tgt := 31) B dX2_sounding_24 (by decide) (fun c_14 => ?_) (fun c_14 => ?_)
      · skip
        have c_14f := vfr0 (hr_13 ▸ c_14)
        refine g_iconst (v := 1) B dX2_sounding_31 kc_1 ?_
        exact j_15 _ (by first | rfl | (simp only [v_snd, v_s1, if_neg c_14f]; done) | (simp only [v_snd, v_s1, if_neg c_14f]; rfl))
      · skip
        have c_14f := vfr1 (hr_13 ▸ c_14)
        refine g_iconst (v := 0) B dX2_sounding_27 kc_0 ?_
        refine g_goto (tgt := 32) B dX2_sounding_28 (by decide) ?_
        exact j_15 _ (by first | rfl | (simp only [v_snd, v_s1, if_pos c_14f]; done) | (simp only [v_snd, v_s1, if_pos c_14f]; rfl))
    refine g_if_eq (tgt := 31) B dX2_sounding_24 (by decide) (fun c_8 => ?_) (fun c_8 => ?_)
    · skip
      have c_8f := vfr0 (hr_7 ▸ c_8)
      refine g_iconst (v := 1) B dX2_sounding_31 kc_1 ?_
      exact j_9 _ (by first | rfl | (simp only [v_snd, v_s1, if_neg c_8f]; done) | (simp only [v_snd, v_s1, if_neg c_8f]; rfl))
    · skip
      have c_8f := vfr1 (hr_7 ▸ c_8)
      refine g_iconst (v := 0) B dX2_sounding_27 kc_0 ?_
      refine g_goto (tgt := 32) B dX2_sounding_28 (by decide) ?_
      exact j_9 _ (by first | rfl | (simp only [v_snd, v_s1, if_pos c_8f]; done) | (simp only [v_snd, v_s1, if_pos c_8f]; rfl))
  refine g_if_eq (tgt := 31) B dX2_sounding_24 (by decide) (fun c_3 => ?_) (fun c_3 => ?_)
  · skip
    have c_3f := vfr0 (hr_2 ▸ c_3)
    refine g_iconst (v := 1) B dX2_sounding_31 kc_1 ?_
    exact j_4 _ (by first | rfl | (simp only [v_snd, v_s1, if_neg c_3f]; done) | (simp only [v_snd, v_s1, if_neg c_3f]; rfl))
  · skip
    have c_3f := vfr1 (hr_2 ▸ c_3)
    refine g_iconst (v := 0) B dX2_sounding_27 kc_0 ?_
    refine g_goto (tgt := 32) B dX2_sounding_28 (by decide) ?_
    exact j_4 _ (by first | rfl | (simp only [v_snd, v_s1, if_pos c_3f]; done) | (simp only [v_snd, v_s1, if_pos c_3f]; rfl))

set_option maxHeartbeats 4000000 in
set_option maxRecDepth 100000 in
theorem m_X2_begin (l : Launch) (hst : l.stackTraces = false) (g : gG) (ad ed : Nat → Nat) (en : Nat → Int32) (vf : Nat → Nat → Int32) (i pi fo ga : Int32) : gMi l yX2_begin cX2_begin 7 .int 4 86 0 0 g [((ed 0), cE (ed 1) (ed 7) (ad 0) en), ((ed 1), cA (ed 2) al4), ((ed 2), .inl (g.2.2.1, 10, .inr (.inr (.inr (.inr (vq ed)))))), ((ed 3), cV (vf 0)), ((ed 4), cV (vf 1)), ((ed 5), cV (vf 2)), ((ed 6), cV (vf 3))] [.ref (ed 0), .int i, .int pi, .int fo, .int ga] (fun (r : Int32) (_ : Unit) => r = nI (v_nx vf)) (fun _ : Unit => [((ed 0), cE (ed 1) (ed 7) (ad 0) (e_be vf en)), ((ed 1), cA (ed 2) al4), ((ed 2), .inl (g.2.2.1, 10, .inr (.inr (.inr (.inr (vq ed)))))), ((ed 3), cV ((e_bv vf en i pi fo ga) 0)), ((ed 4), cV ((e_bv vf en i pi fo ga) 1)), ((ed 5), cV ((e_bv vf en i pi fo ga) 2)), ((ed 6), cV ((e_bv vf en i pi fo ga) 3))]) := by
  intro sz
  refine g_ent (by decide) hst [(0, .ref (ed 0)), (1, .int i), (2, .int pi), (3, .int fo), (4, .int ga)] (Nat.le_of_ble_eq_true rfl) rfl ?_
  intro p e s m below meth c B hr hnm hsz
  have B : gB p l s m ([.ref (ed 0), .int i, .int pi, .int fo, .int ga] : List Value).toArray meth c RX2 cX2_begin 7 g (va_A [((ed 0), cE (ed 1) (ed 7) (ad 0) en), ((ed 1), cA (ed 2) al4), ((ed 2), .inl (g.2.2.1, 10, .inr (.inr (.inr (.inr (vq ed)))))), ((ed 3), cV (vf 0)), ((ed 4), cV (vf 1)), ((ed 5), cV (vf 2)), ((ed 6), cV (vf 3))] sz) := B
  refine g_aload_n B 0 0 dX2_begin_0 rfl rfl ?_
  refine g_cuV_i (C := RX2) (T := TX2) (N := 12) (As := []) B (m_X2_next l hst g ad ed en vf) 1 0 rfl rfl [0, 1, 2, 3, 4, 5, 6] [] (lw_V q467 q468 q469 q30 q470) nvX2_next rfl rfl rfl rfl (Nat.le_of_ble_eq_true rfl) dX2_begin_1 ⟨Nat.le_of_ble_eq_true rfl, Nat.le_of_ble_eq_true rfl⟩ ⟨Nat.le_of_ble_eq_true rfl, Nat.le_of_ble_eq_true rfl⟩ (fun r_1 ur_1 hr_1 => ?_)
  have hr_1 : r_1 = (nI (v_nx vf)) := hr_1
  rcases v_nx_4 vf with k_2 | k_2 | k_2 | k_2
  · skip
    obtain rfl : 0 = r_1 := (hr_1.trans (by rw [k_2]; rfl)).symm
    refine g_istore B [(5, .int 0), (0, .ref (ed 0)), (1, .int i), (2, .int pi), (3, .int fo), (4, .int ga)] dX2_begin_4 (Nat.le_of_ble_eq_true rfl) rfl ?_
    refine g_aload_n B 0 1 dX2_begin_6 rfl rfl ?_
    refine g_get (C := RX2) (T := TX2) (N := 12) B 1 0 0 (.ref (ed 1)) in_X2 rfl q92 rfl (Nat.le_of_ble_eq_true rfl) (fun _ h9 => h9) rfl dX2_begin_7 ?_
    refine g_iload B 0 dX2_begin_10 rfl ?_
    refine g_cuV_q (C := RJ2) (T := TJ2) (N := 3) (As := [.int 0]) B (m_J2_get l hst g (ed 1) (ed 2) al4 10 (vq ed) 0 0 (ed 3) (by decide) (by decide) (by decide) (vpc rfl) rfl) 7 0 rfl rfl [1, 2] [] (lw_V q410 q411 q412 q29 q413) nvJ2_get rfl rfl rfl rfl (Nat.le_of_ble_eq_true rfl) dX2_begin_12 ⟨Nat.le_of_ble_eq_true rfl, Nat.le_of_ble_eq_true rfl⟩ ⟨Nat.le_of_ble_eq_true rfl, Nat.le_of_ble_eq_true rfl⟩ (fun r_3 ur_3 hr_3 => ?_)
    obtain rfl : some (ed 3) = r_3 := (hr_3).symm
    refine g_eqs (st' := [.ref (ed 3)]) rfl ?_
    refine g_cast (C := RX5) (T := TX5) (N := 11) B 4 3 q424 rfl rfl dX2_begin_15 ?_
    refine g_astore B [(6, .ref (ed 3)), (5, .int 0), (0, .ref (ed 0)), (1, .int i), (2, .int pi), (3, .int fo), (4, .int ga)] dX2_begin_18 (Nat.le_of_ble_eq_true rfl) rfl ?_
    refine g_aload B 0 dX2_begin_20 rfl ?_
    refine g_cuV_i (C := RX5) (T := TX5) (N := 11) (As := []) B (m_X5_isFree l hst g (ed 3) (vf 0)) 4 0 rfl rfl [3] [] (lw_V q425 q426 q427 q37 q428) nvX5_isFree rfl rfl rfl rfl (Nat.le_of_ble_eq_true rfl) dX2_begin_22 ⟨Nat.le_of_ble_eq_true rfl, Nat.le_of_ble_eq_true rfl⟩ ⟨Nat.le_of_ble_eq_true rfl, Nat.le_of_ble_eq_true rfl⟩ (fun r_4 ur_4 hr_4 => ?_)
    have hr_4 : r_4 = (v_free (vf 0)) := hr_4
    refine g_if_ne (tgt := 38) B dX2_begin_25 (by decide) (fun c_5 => ?_) (fun c_5 => ?_)
    · skip
      have c_5f := vfr1 (hr_4 ▸ c_5)
      refine g_aload_n B 0 2 dX2_begin_38 rfl rfl ?_
      refine g_dup B dX2_begin_39 rfl ?_
      refine g_get (C := RX2) (T := TX2) (N := 12) B 1 0 4 (.int (en 2)) in_X2 rfl q100 rfl (Nat.le_of_ble_eq_true rfl) (fun _ h9 => h9) rfl dX2_begin_40 ?_
      refine g_iconst (v := 1) B dX2_begin_43 kc_1 ?_
      refine g_iadd B dX2_begin_44 ?_
      refine g_put (C := RX2) (T := TX2) (N := 12) (ty := .int) (v := .int ((en 2) + 1)) B 1 0 4 [((ed 0), cE (ed 1) (ed 7) (ad 0) (upd en 2 ((en 2) + 1))), ((ed 1), cA (ed 2) al4), ((ed 2), .inl (g.2.2.1, 10, .inr (.inr (.inr (.inr (vq ed)))))), ((ed 3), cV (vf 0)), ((ed 4), cV (vf 1)), ((ed 5), cV (vf 2)), ((ed 6), cV (vf 3))] in_X2 tyX2 tyX2_ok nmX2 rfl q100 rfl (Nat.le_of_ble_eq_true rfl) (fun _ h9 => h9) rfl rfl rfl rfl (Nat.le_of_ble_eq_true rfl) rfl dX2_begin_45 ?_
      refine g_aload B 0 dX2_begin_48 rfl ?_
      refine g_iload_n B 1 3 dX2_begin_50 rfl rfl ?_
      refine g_iload_n B 2 4 dX2_begin_51 rfl rfl ?_
      refine g_iload_n B 3 5 dX2_begin_52 rfl rfl ?_
      refine g_iload B 6 dX2_begin_53 rfl ?_
      refine g_aload_n B 0 2 dX2_begin_55 rfl rfl ?_
      refine g_get (C := RX2) (T := TX2) (N := 12) B 1 0 4 (.int ((en 2) + 1)) in_X2 rfl q100 rfl (Nat.le_of_ble_eq_true rfl) (fun _ h9 => h9) rfl dX2_begin_56 ?_
      refine g_cV_v (C := RX5) (T := TX5) (N := 11) (As := [.int i, .int pi, .int fo, .int ga, .int ((en 2) + 1)]) B (m_X5_begin l hst g (ed 3) (vf 0) i pi fo ga ((en 2) + 1)) 4 0 rfl rfl [3] [] (lw_V q477 q478 q479 q37 q480) nvX5_begin rfl rfl (fun _ => rfl) rfl rfl (Nat.le_of_ble_eq_true rfl) dX2_begin_59 ⟨Nat.le_of_ble_eq_true rfl, Nat.le_of_ble_eq_true rfl⟩ ⟨Nat.le_of_ble_eq_true rfl, Nat.le_of_ble_eq_true rfl⟩ (fun ur_6 hr_6 => ?_)
      refine g_eqw (ws' := [((ed 0), cE (ed 1) (ed 7) (ad 0) (upd en 2 ((en 2) + 1))), ((ed 1), cA (ed 2) al4), ((ed 2), .inl (g.2.2.1, 10, .inr (.inr (.inr (.inr (vq ed)))))), ((ed 3), cV (v_begin (vf 0) i pi fo ga ((en 2) + 1))), ((ed 4), cV (vf 1)), ((ed 5), cV (vf 2)), ((ed 6), cV (vf 3))]) rfl ?_
      refine g_iload B 1 dX2_begin_62 rfl ?_
      subst hr_4
      exact g_iret B hr dX2_begin_64 (Nat.le_of_ble_eq_true rfl) (Nat.le_of_ble_eq_true rfl) () (by first | (simp only [e_bv, e_be, k_2, if_pos c_5f]; done) | (simp only [e_bv, e_be, k_2, if_pos c_5f]; rfl) | rfl) [0, 1, 2, 3, 4, 5, 6] rfl (by first | (simp only [e_bv, e_be, k_2, if_pos c_5f]; rfl) | rfl)
    · skip
      have c_5f := vfr0 (hr_4 ▸ c_5)
      refine g_aload_n B 0 2 dX2_begin_28 rfl rfl ?_
      refine g_dup B dX2_begin_29 rfl ?_
      refine g_get (C := RX2) (T := TX2) (N := 12) B 1 0 5 (.int (en 3)) in_X2 rfl q101 rfl (Nat.le_of_ble_eq_true rfl) (fun _ h9 => h9) rfl dX2_begin_30 ?_
      refine g_iconst (v := 1) B dX2_begin_33 kc_1 ?_
      refine g_iadd B dX2_begin_34 ?_
      refine g_put (C := RX2) (T := TX2) (N := 12) (ty := .int) (v := .int ((en 3) + 1)) B 1 0 5 [((ed 0), cE (ed 1) (ed 7) (ad 0) (upd en 3 ((en 3) + 1))), ((ed 1), cA (ed 2) al4), ((ed 2), .inl (g.2.2.1, 10, .inr (.inr (.inr (.inr (vq ed)))))), ((ed 3), cV (vf 0)), ((ed 4), cV (vf 1)), ((ed 5), cV (vf 2)), ((ed 6), cV (vf 3))] in_X2 tyX2 tyX2_ok nmX2 rfl q101 rfl (Nat.le_of_ble_eq_true rfl) (fun _ h9 => h9) rfl rfl rfl rfl (Nat.le_of_ble_eq_true rfl) rfl dX2_begin_35 ?_
      refine g_aload_n B 0 2 dX2_begin_38 rfl rfl ?_
      refine g_dup B dX2_begin_39 rfl ?_
      refine g_get (C := RX2) (T := TX2) (N := 12) B 1 0 4 (.int (en 2)) in_X2 rfl q100 rfl (Nat.le_of_ble_eq_true rfl) (fun _ h9 => h9) rfl dX2_begin_40 ?_
      refine g_iconst (v := 1) B dX2_begin_43 kc_1 ?_
      refine g_iadd B dX2_begin_44 ?_
      refine g_put (C := RX2) (T := TX2) (N := 12) (ty := .int) (v := .int ((en 2) + 1)) B 1 0 4 [((ed 0), cE (ed 1) (ed 7) (ad 0) (upd (upd en 3 ((en 3) + 1)) 2 ((en 2) + 1))), ((ed 1), cA (ed 2) al4), ((ed 2), .inl (g.2.2.1, 10, .inr (.inr (.inr (.inr (vq ed)))))), ((ed 3), cV (vf 0)), ((ed 4), cV (vf 1)), ((ed 5), cV (vf 2)), ((ed 6), cV (vf 3))] in_X2 tyX2 tyX2_ok nmX2 rfl q100 rfl (Nat.le_of_ble_eq_true rfl) (fun _ h9 => h9) rfl rfl rfl rfl (Nat.le_of_ble_eq_true rfl) rfl dX2_begin_45 ?_
      refine g_aload B 0 dX2_begin_48 rfl ?_
      refine g_iload_n B 1 3 dX2_begin_50 rfl rfl ?_
      refine g_iload_n B 2 4 dX2_begin_51 rfl rfl ?_
      refine g_iload_n B 3 5 dX2_begin_52 rfl rfl ?_
      refine g_iload B 6 dX2_begin_53 rfl ?_
      refine g_aload_n B 0 2 dX2_begin_55 rfl rfl ?_
      refine g_get (C := RX2) (T := TX2) (N := 12) B 1 0 4 (.int ((en 2) + 1)) in_X2 rfl q100 rfl (Nat.le_of_ble_eq_true rfl) (fun _ h9 => h9) rfl dX2_begin_56 ?_
      refine g_cV_v (C := RX5) (T := TX5) (N := 11) (As := [.int i, .int pi, .int fo, .int ga, .int ((en 2) + 1)]) B (m_X5_begin l hst g (ed 3) (vf 0) i pi fo ga ((en 2) + 1)) 4 0 rfl rfl [3] [] (lw_V q477 q478 q479 q37 q480) nvX5_begin rfl rfl (fun _ => rfl) rfl rfl (Nat.le_of_ble_eq_true rfl) dX2_begin_59 ⟨Nat.le_of_ble_eq_true rfl, Nat.le_of_ble_eq_true rfl⟩ ⟨Nat.le_of_ble_eq_true rfl, Nat.le_of_ble_eq_true rfl⟩ (fun ur_7 hr_7 => ?_)
      refine g_eqw (ws' := [((ed 0), cE (ed 1) (ed 7) (ad 0) (upd (upd en 3 ((en 3) + 1)) 2 ((en 2) + 1))), ((ed 1), cA (ed 2) al4), ((ed 2), .inl (g.2.2.1, 10, .inr (.inr (.inr (.inr (vq ed)))))), ((ed 3), cV (v_begin (vf 0) i pi fo ga ((en 2) + 1))), ((ed 4), cV (vf 1)), ((ed 5), cV (vf 2)), ((ed 6), cV (vf 3))]) rfl ?_
      refine g_iload B 1 dX2_begin_62 rfl ?_
      subst hr_4
      exact g_iret B hr dX2_begin_64 (Nat.le_of_ble_eq_true rfl) (Nat.le_of_ble_eq_true rfl) () (by first | (simp only [e_bv, e_be, k_2, if_neg c_5f]; done) | (simp only [e_bv, e_be, k_2, if_neg c_5f]; rfl) | rfl) [0, 1, 2, 3, 4, 5, 6] rfl (by first | (simp only [e_bv, e_be, k_2, if_neg c_5f]; rfl) | rfl)
  · skip
    obtain rfl : 1 = r_1 := (hr_1.trans (by rw [k_2]; rfl)).symm
    refine g_istore B [(5, .int 1), (0, .ref (ed 0)), (1, .int i), (2, .int pi), (3, .int fo), (4, .int ga)] dX2_begin_4 (Nat.le_of_ble_eq_true rfl) rfl ?_
    refine g_aload_n B 0 1 dX2_begin_6 rfl rfl ?_
    refine g_get (C := RX2) (T := TX2) (N := 12) B 1 0 0 (.ref (ed 1)) in_X2 rfl q92 rfl (Nat.le_of_ble_eq_true rfl) (fun _ h9 => h9) rfl dX2_begin_7 ?_
    refine g_iload B 0 dX2_begin_10 rfl ?_
    refine g_cuV_q (C := RJ2) (T := TJ2) (N := 3) (As := [.int 1]) B (m_J2_get l hst g (ed 1) (ed 2) al4 10 (vq ed) 1 1 (ed 4) (by decide) (by decide) (by decide) (vpc rfl) rfl) 7 0 rfl rfl [1, 2] [] (lw_V q410 q411 q412 q29 q413) nvJ2_get rfl rfl rfl rfl (Nat.le_of_ble_eq_true rfl) dX2_begin_12 ⟨Nat.le_of_ble_eq_true rfl, Nat.le_of_ble_eq_true rfl⟩ ⟨Nat.le_of_ble_eq_true rfl, Nat.le_of_ble_eq_true rfl⟩ (fun r_8 ur_8 hr_8 => ?_)
    obtain rfl : some (ed 4) = r_8 := (hr_8).symm
    refine g_eqs (st' := [.ref (ed 4)]) rfl ?_
    refine g_cast (C := RX5) (T := TX5) (N := 11) B 4 4 q424 rfl rfl dX2_begin_15 ?_
    refine g_astore B [(6, .ref (ed 4)), (5, .int 1), (0, .ref (ed 0)), (1, .int i), (2, .int pi), (3, .int fo), (4, .int ga)] dX2_begin_18 (Nat.le_of_ble_eq_true rfl) rfl ?_
    refine g_aload B 0 dX2_begin_20 rfl ?_
    refine g_cuV_i (C := RX5) (T := TX5) (N := 11) (As := []) B (m_X5_isFree l hst g (ed 4) (vf 1)) 4 0 rfl rfl [4] [] (lw_V q425 q426 q427 q37 q428) nvX5_isFree rfl rfl rfl rfl (Nat.le_of_ble_eq_true rfl) dX2_begin_22 ⟨Nat.le_of_ble_eq_true rfl, Nat.le_of_ble_eq_true rfl⟩ ⟨Nat.le_of_ble_eq_true rfl, Nat.le_of_ble_eq_true rfl⟩ (fun r_9 ur_9 hr_9 => ?_)
    have hr_9 : r_9 = (v_free (vf 1)) := hr_9
    refine g_if_ne (tgt := 38) B dX2_begin_25 (by decide) (fun c_10 => ?_) (fun c_10 => ?_)
    · skip
      have c_10f := vfr1 (hr_9 ▸ c_10)
      refine g_aload_n B 0 2 dX2_begin_38 rfl rfl ?_
      refine g_dup B dX2_begin_39 rfl ?_
      refine g_get (C := RX2) (T := TX2) (N := 12) B 1 0 4 (.int (en 2)) in_X2 rfl q100 rfl (Nat.le_of_ble_eq_true rfl) (fun _ h9 => h9) rfl dX2_begin_40 ?_
      refine g_iconst (v := 1) B dX2_begin_43 kc_1 ?_
      refine g_iadd B dX2_begin_44 ?_
      refine g_put (C := RX2) (T := TX2) (N := 12) (ty := .int) (v := .int ((en 2) + 1)) B 1 0 4 [((ed 0), cE (ed 1) (ed 7) (ad 0) (upd en 2 ((en 2) + 1))), ((ed 1), cA (ed 2) al4), ((ed 2), .inl (g.2.2.1, 10, .inr (.inr (.inr (.inr (vq ed)))))), ((ed 3), cV (vf 0)), ((ed 4), cV (vf 1)), ((ed 5), cV (vf 2)), ((ed 6), cV (vf 3))] in_X2 tyX2 tyX2_ok nmX2 rfl q100 rfl (Nat.le_of_ble_eq_true rfl) (fun _ h9 => h9) rfl rfl rfl rfl (Nat.le_of_ble_eq_true rfl) rfl dX2_begin_45 ?_
      refine g_aload B 0 dX2_begin_48 rfl ?_
      refine g_iload_n B 1 3 dX2_begin_50 rfl rfl ?_
      refine g_iload_n B 2 4 dX2_begin_51 rfl rfl ?_
      refine g_iload_n B 3 5 dX2_begin_52 rfl rfl ?_
      refine g_iload B 6 dX2_begin_53 rfl ?_
      refine g_aload_n B 0 2 dX2_begin_55 rfl rfl ?_
      refine g_get (C := RX2) (T := TX2) (N := 12) B 1 0 4 (.int ((en 2) + 1)) in_X2 rfl q100 rfl (Nat.le_of_ble_eq_true rfl) (fun _ h9 => h9) rfl dX2_begin_56 ?_
      refine g_cV_v (C := RX5) (T := TX5) (N := 11) (As := [.int i, .int pi, .int fo, .int ga, .int ((en 2) + 1)]) B (m_X5_begin l hst g (ed 4) (vf 1) i pi fo ga ((en 2) + 1)) 4 0 rfl rfl [4] [] (lw_V q477 q478 q479 q37 q480) nvX5_begin rfl rfl (fun _ => rfl) rfl rfl (Nat.le_of_ble_eq_true rfl) dX2_begin_59 ⟨Nat.le_of_ble_eq_true rfl, Nat.le_of_ble_eq_true rfl⟩ ⟨Nat.le_of_ble_eq_true rfl, Nat.le_of_ble_eq_true rfl⟩ (fun ur_11 hr_11 => ?_)
      refine g_eqw (ws' := [((ed 0), cE (ed 1) (ed 7) (ad 0) (upd en 2 ((en 2) + 1))), ((ed 1), cA (ed 2) al4), ((ed 2), .inl (g.2.2.1, 10, .inr (.inr (.inr (.inr (vq ed)))))), ((ed 3), cV (vf 0)), ((ed 4), cV (v_begin (vf 1) i pi fo ga ((en 2) + 1))), ((ed 5), cV (vf 2)), ((ed 6), cV (vf 3))]) rfl ?_
      refine g_iload B 1 dX2_begin_62 rfl ?_
      subst hr_9
      exact g_iret B hr dX2_begin_64 (Nat.le_of_ble_eq_true rfl) (Nat.le_of_ble_eq_true rfl) () (by first | (simp only [e_bv, e_be, k_2, if_pos c_10f]; done) | (simp only [e_bv, e_be, k_2, if_pos c_10f]; rfl) | rfl) [0, 1, 2, 3, 4, 5, 6] rfl (by first | (simp only [e_bv, e_be, k_2, if_pos c_10f]; rfl) | rfl)
    · skip
      have c_10f := vfr0 (hr_9 ▸ c_10)
      refine g_aload_n B 0 2 dX2_begin_28 rfl rfl ?_
      refine g_dup B dX2_begin_29 rfl ?_
      refine g_get (C := RX2) (T := TX2) (N := 12) B 1 0 5 (.int (en 3)) in_X2 rfl q101 rfl (Nat.le_of_ble_eq_true rfl) (fun _ h9 => h9) rfl dX2_begin_30 ?_
      refine g_iconst (v := 1) B dX2_begin_33 kc_1 ?_
      refine g_iadd B dX2_begin_34 ?_
      refine g_put (C := RX2) (T := TX2) (N := 12) (ty := .int) (v := .int ((en 3) + 1)) B 1 0 5 [((ed 0), cE (ed 1) (ed 7) (ad 0) (upd en 3 ((en 3) + 1))), ((ed 1), cA (ed 2) al4), ((ed 2), .inl (g.2.2.1, 10, .inr (.inr (.inr (.inr (vq ed)))))), ((ed 3), cV (vf 0)), ((ed 4), cV (vf 1)), ((ed 5), cV (vf 2)), ((ed 6), cV (vf 3))] in_X2 tyX2 tyX2_ok nmX2 rfl q101 rfl (Nat.le_of_ble_eq_true rfl) (fun _ h9 => h9) rfl rfl rfl rfl (Nat.le_of_ble_eq_true rfl) rfl dX2_begin_35 ?_
      refine g_aload_n B 0 2 dX2_begin_38 rfl rfl ?_
      refine g_dup B dX2_begin_39 rfl ?_
      refine g_get (C := RX2) (T := TX2) (N := 12) B 1 0 4 (.int (en 2)) in_X2 rfl q100 rfl (Nat.le_of_ble_eq_true rfl) (fun _ h9 => h9) rfl dX2_begin_40 ?_
      refine g_iconst (v := 1) B dX2_begin_43 kc_1 ?_
      refine g_iadd B dX2_begin_44 ?_
      refine g_put (C := RX2) (T := TX2) (N := 12) (ty := .int) (v := .int ((en 2) + 1)) B 1 0 4 [((ed 0), cE (ed 1) (ed 7) (ad 0) (upd (upd en 3 ((en 3) + 1)) 2 ((en 2) + 1))), ((ed 1), cA (ed 2) al4), ((ed 2), .inl (g.2.2.1, 10, .inr (.inr (.inr (.inr (vq ed)))))), ((ed 3), cV (vf 0)), ((ed 4), cV (vf 1)), ((ed 5), cV (vf 2)), ((ed 6), cV (vf 3))] in_X2 tyX2 tyX2_ok nmX2 rfl q100 rfl (Nat.le_of_ble_eq_true rfl) (fun _ h9 => h9) rfl rfl rfl rfl (Nat.le_of_ble_eq_true rfl) rfl dX2_begin_45 ?_
      refine g_aload B 0 dX2_begin_48 rfl ?_
      refine g_iload_n B 1 3 dX2_begin_50 rfl rfl ?_
      refine g_iload_n B 2 4 dX2_begin_51 rfl rfl ?_
      refine g_iload_n B 3 5 dX2_begin_52 rfl rfl ?_
      refine g_iload B 6 dX2_begin_53 rfl ?_
      refine g_aload_n B 0 2 dX2_begin_55 rfl rfl ?_
      refine g_get (C := RX2) (T := TX2) (N := 12) B 1 0 4 (.int ((en 2) + 1)) in_X2 rfl q100 rfl (Nat.le_of_ble_eq_true rfl) (fun _ h9 => h9) rfl dX2_begin_56 ?_
      refine g_cV_v (C := RX5) (T := TX5) (N := 11) (As := [.int i, .int pi, .int fo, .int ga, .int ((en 2) + 1)]) B (m_X5_begin l hst g (ed 4) (vf 1) i pi fo ga ((en 2) + 1)) 4 0 rfl rfl [4] [] (lw_V q477 q478 q479 q37 q480) nvX5_begin rfl rfl (fun _ => rfl) rfl rfl (Nat.le_of_ble_eq_true rfl) dX2_begin_59 ⟨Nat.le_of_ble_eq_true rfl, Nat.le_of_ble_eq_true rfl⟩ ⟨Nat.le_of_ble_eq_true rfl, Nat.le_of_ble_eq_true rfl⟩ (fun ur_12 hr_12 => ?_)
      refine g_eqw (ws' := [((ed 0), cE (ed 1) (ed 7) (ad 0) (upd (upd en 3 ((en 3) + 1)) 2 ((en 2) + 1))), ((ed 1), cA (ed 2) al4), ((ed 2), .inl (g.2.2.1, 10, .inr (.inr (.inr (.inr (vq ed)))))), ((ed 3), cV (vf 0)), ((ed 4), cV (v_begin (vf 1) i pi fo ga ((en 2) + 1))), ((ed 5), cV (vf 2)), ((ed 6), cV (vf 3))]) rfl ?_
      refine g_iload B 1 dX2_begin_62 rfl ?_
      subst hr_9
      exact g_iret B hr dX2_begin_64 (Nat.le_of_ble_eq_true rfl) (Nat.le_of_ble_eq_true rfl) () (by first | (simp only [e_bv, e_be, k_2, if_neg c_10f]; done) | (simp only [e_bv, e_be, k_2, if_neg c_10f]; rfl) | rfl) [0, 1, 2, 3, 4, 5, 6] rfl (by first | (simp only [e_bv, e_be, k_2, if_neg c_10f]; rfl) | rfl)
  · skip
    obtain rfl : 2 = r_1 := (hr_1.trans (by rw [k_2]; rfl)).symm
    refine g_istore B [(5, .int 2), (0, .ref (ed 0)), (1, .int i), (2, .int pi), (3, .int fo), (4, .int ga)] dX2_begin_4 (Nat.le_of_ble_eq_true rfl) rfl ?_
    refine g_aload_n B 0 1 dX2_begin_6 rfl rfl ?_
    refine g_get (C := RX2) (T := TX2) (N := 12) B 1 0 0 (.ref (ed 1)) in_X2 rfl q92 rfl (Nat.le_of_ble_eq_true rfl) (fun _ h9 => h9) rfl dX2_begin_7 ?_
    refine g_iload B 0 dX2_begin_10 rfl ?_
    refine g_cuV_q (C := RJ2) (T := TJ2) (N := 3) (As := [.int 2]) B (m_J2_get l hst g (ed 1) (ed 2) al4 10 (vq ed) 2 2 (ed 5) (by decide) (by decide) (by decide) (vpc rfl) rfl) 7 0 rfl rfl [1, 2] [] (lw_V q410 q411 q412 q29 q413) nvJ2_get rfl rfl rfl rfl (Nat.le_of_ble_eq_true rfl) dX2_begin_12 ⟨Nat.le_of_ble_eq_true rfl, Nat.le_of_ble_eq_true rfl⟩ ⟨Nat.le_of_ble_eq_true rfl, Nat.le_of_ble_eq_true rfl⟩ (fun r_13 ur_13 hr_13 => ?_)
    obtain rfl : some (ed 5) = r_13 := (hr_13).symm
    refine g_eqs (st' := [.ref (ed 5)]) rfl ?_
    refine g_cast (C := RX5) (T := TX5) (N := 11) B 4 5 q424 rfl rfl dX2_begin_15 ?_
    refine g_astore B [(6, .ref (ed 5)), (5, .int 2), (0, .ref (ed 0)), (1, .int i), (2, .int pi), (3, .int fo), (4, .int ga)] dX2_begin_18 (Nat.le_of_ble_eq_true rfl) rfl ?_
    refine g_aload B 0 dX2_begin_20 rfl ?_
    refine g_cuV_i (C := RX5) (T := TX5) (N := 11) (As := []) B (m_X5_isFree l hst g (ed 5) (vf 2)) 4 0 rfl rfl [5] [] (lw_V q425 q426 q427 q37 q428) nvX5_isFree rfl rfl rfl rfl (Nat.le_of_ble_eq_true rfl) dX2_begin_22 ⟨Nat.le_of_ble_eq_true rfl, Nat.le_of_ble_eq_true rfl⟩ ⟨Nat.le_of_ble_eq_true rfl, Nat.le_of_ble_eq_true rfl⟩ (fun r_14 ur_14 hr_14 => ?_)
    have hr_14 : r_14 = (v_free (vf 2)) := hr_14
    refine g_if_ne (tgt := 38) B dX2_begin_25 (by decide) (fun c_15 => ?_) (fun c_15 => ?_)
    · skip
      have c_15f := vfr1 (hr_14 ▸ c_15)
      refine g_aload_n B 0 2 dX2_begin_38 rfl rfl ?_
      refine g_dup B dX2_begin_39 rfl ?_
      refine g_get (C := RX2) (T := TX2) (N := 12) B 1 0 4 (.int (en 2)) in_X2 rfl q100 rfl (Nat.le_of_ble_eq_true rfl) (fun _ h9 => h9) rfl dX2_begin_40 ?_
      refine g_iconst (v := 1) B dX2_begin_43 kc_1 ?_
      refine g_iadd B dX2_begin_44 ?_
      refine g_put (C := RX2) (T := TX2) (N := 12) (ty := .int) (v := .int ((en 2) + 1)) B 1 0 4 [((ed 0), cE (ed 1) (ed 7) (ad 0) (upd en 2 ((en 2) + 1))), ((ed 1), cA (ed 2) al4), ((ed 2), .inl (g.2.2.1, 10, .inr (.inr (.inr (.inr (vq ed)))))), ((ed 3), cV (vf 0)), ((ed 4), cV (vf 1)), ((ed 5), cV (vf 2)), ((ed 6), cV (vf 3))] in_X2 tyX2 tyX2_ok nmX2 rfl q100 rfl (Nat.le_of_ble_eq_true rfl) (fun _ h9 => h9) rfl rfl rfl rfl (Nat.le_of_ble_eq_true rfl) rfl dX2_begin_45 ?_
      refine g_aload B 0 dX2_begin_48 rfl ?_
      refine g_iload_n B 1 3 dX2_begin_50 rfl rfl ?_
      refine g_iload_n B 2 4 dX2_begin_51 rfl rfl ?_
      refine g_iload_n B 3 5 dX2_begin_52 rfl rfl ?_
      refine g_iload B 6 dX2_begin_53 rfl ?_
      refine g_aload_n B 0 2 dX2_begin_55 rfl rfl ?_
      refine g_get (C := RX2) (T := TX2) (N := 12) B 1 0 4 (.int ((en 2) + 1)) in_X2 rfl q100 rfl (Nat.le_of_ble_eq_true rfl) (fun _ h9 => h9) rfl dX2_begin_56 ?_
      refine g_cV_v (C := RX5) (T := TX5) (N := 11) (As := [.int i, .int pi, .int fo, .int ga, .int ((en 2) + 1)]) B (m_X5_begin l hst g (ed 5) (vf 2) i pi fo ga ((en 2) + 1)) 4 0 rfl rfl [5] [] (lw_V q477 q478 q479 q37 q480) nvX5_begin rfl rfl (fun _ => rfl) rfl rfl (Nat.le_of_ble_eq_true rfl) dX2_begin_59 ⟨Nat.le_of_ble_eq_true rfl, Nat.le_of_ble_eq_true rfl⟩ ⟨Nat.le_of_ble_eq_true rfl, Nat.le_of_ble_eq_true rfl⟩ (fun ur_16 hr_16 => ?_)
      refine g_eqw (ws' := [((ed 0), cE (ed 1) (ed 7) (ad 0) (upd en 2 ((en 2) + 1))), ((ed 1), cA (ed 2) al4), ((ed 2), .inl (g.2.2.1, 10, .inr (.inr (.inr (.inr (vq ed)))))), ((ed 3), cV (vf 0)), ((ed 4), cV (vf 1)), ((ed 5), cV (v_begin (vf 2) i pi fo ga ((en 2) + 1))), ((ed 6), cV (vf 3))]) rfl ?_
      refine g_iload B 1 dX2_begin_62 rfl ?_
      subst hr_14
      exact g_iret B hr dX2_begin_64 (Nat.le_of_ble_eq_true rfl) (Nat.le_of_ble_eq_true rfl) () (by first | (simp only [e_bv, e_be, k_2, if_pos c_15f]; done) | (simp only [e_bv, e_be, k_2, if_pos c_15f]; rfl) | rfl) [0, 1, 2, 3, 4, 5, 6] rfl (by first | (simp only [e_bv, e_be, k_2, if_pos c_15f]; rfl) | rfl)
    · skip
      have c_15f := vfr0 (hr_14 ▸ c_15)
      refine g_aload_n B 0 2 dX2_begin_28 rfl rfl ?_
      refine g_dup B dX2_begin_29 rfl ?_
      refine g_get (C := RX2) (T := TX2) (N := 12) B 1 0 5 (.int (en 3)) in_X2 rfl q101 rfl (Nat.le_of_ble_eq_true rfl) (fun _ h9 => h9) rfl dX2_begin_30 ?_
      refine g_iconst (v := 1) B dX2_begin_33 kc_1 ?_
      refine g_iadd B dX2_begin_34 ?_
      refine g_put (C := RX2) (T := TX2) (N := 12) (ty := .int) (v := .int ((en 3) + 1)) B 1 0 5 [((ed 0), cE (ed 1) (ed 7) (ad 0) (upd en 3 ((en 3) + 1))), ((ed 1), cA (ed 2) al4), ((ed 2), .inl (g.2.2.1, 10, .inr (.inr (.inr (.inr (vq ed)))))), ((ed 3), cV (vf 0)), ((ed 4), cV (vf 1)), ((ed 5), cV (vf 2)), ((ed 6), cV (vf 3))] in_X2 tyX2 tyX2_ok nmX2 rfl q101 rfl (Nat.le_of_ble_eq_true rfl) (fun _ h9 => h9) rfl rfl rfl rfl (Nat.le_of_ble_eq_true rfl) rfl dX2_begin_35 ?_
      refine g_aload_n B 0 2 dX2_begin_38 rfl rfl ?_
      refine g_dup B dX2_begin_39 rfl ?_
      refine g_get (C := RX2) (T := TX2) (N := 12) B 1 0 4 (.int (en 2)) in_X2 rfl q100 rfl (Nat.le_of_ble_eq_true rfl) (fun _ h9 => h9) rfl dX2_begin_40 ?_
      refine g_iconst (v := 1) B dX2_begin_43 kc_1 ?_
      refine g_iadd B dX2_begin_44 ?_
      refine g_put (C := RX2) (T := TX2) (N := 12) (ty := .int) (v := .int ((en 2) + 1)) B 1 0 4 [((ed 0), cE (ed 1) (ed 7) (ad 0) (upd (upd en 3 ((en 3) + 1)) 2 ((en 2) + 1))), ((ed 1), cA (ed 2) al4), ((ed 2), .inl (g.2.2.1, 10, .inr (.inr (.inr (.inr (vq ed)))))), ((ed 3), cV (vf 0)), ((ed 4), cV (vf 1)), ((ed 5), cV (vf 2)), ((ed 6), cV (vf 3))] in_X2 tyX2 tyX2_ok nmX2 rfl q100 rfl (Nat.le_of_ble_eq_true rfl) (fun _ h9 => h9) rfl rfl rfl rfl (Nat.le_of_ble_eq_true rfl) rfl dX2_begin_45 ?_
      refine g_aload B 0 dX2_begin_48 rfl ?_
      refine g_iload_n B 1 3 dX2_begin_50 rfl rfl ?_
      refine g_iload_n B 2 4 dX2_begin_51 rfl rfl ?_
      refine g_iload_n B 3 5 dX2_begin_52 rfl rfl ?_
      refine g_iload B 6 dX2_begin_53 rfl ?_
      refine g_aload_n B 0 2 dX2_begin_55 rfl rfl ?_
      refine g_get (C := RX2) (T := TX2) (N := 12) B 1 0 4 (.int ((en 2) + 1)) in_X2 rfl q100 rfl (Nat.le_of_ble_eq_true rfl) (fun _ h9 => h9) rfl dX2_begin_56 ?_
      refine g_cV_v (C := RX5) (T := TX5) (N := 11) (As := [.int i, .int pi, .int fo, .int ga, .int ((en 2) + 1)]) B (m_X5_begin l hst g (ed 5) (vf 2) i pi fo ga ((en 2) + 1)) 4 0 rfl rfl [5] [] (lw_V q477 q478 q479 q37 q480) nvX5_begin rfl rfl (fun _ => rfl) rfl rfl (Nat.le_of_ble_eq_true rfl) dX2_begin_59 ⟨Nat.le_of_ble_eq_true rfl, Nat.le_of_ble_eq_true rfl⟩ ⟨Nat.le_of_ble_eq_true rfl, Nat.le_of_ble_eq_true rfl⟩ (fun ur_17 hr_17 => ?_)
      refine g_eqw (ws' := [((ed 0), cE (ed 1) (ed 7) (ad 0) (upd (upd en 3 ((en 3) + 1)) 2 ((en 2) + 1))), ((ed 1), cA (ed 2) al4), ((ed 2), .inl (g.2.2.1, 10, .inr (.inr (.inr (.inr (vq ed)))))), ((ed 3), cV (vf 0)), ((ed 4), cV (vf 1)), ((ed 5), cV (v_begin (vf 2) i pi fo ga ((en 2) + 1))), ((ed 6), cV (vf 3))]) rfl ?_
      refine g_iload B 1 dX2_begin_62 rfl ?_
      subst hr_14
      exact g_iret B hr dX2_begin_64 (Nat.le_of_ble_eq_true rfl) (Nat.le_of_ble_eq_true rfl) () (by first | (simp only [e_bv, e_be, k_2, if_neg c_15f]; done) | (simp only [e_bv, e_be, k_2, if_neg c_15f]; rfl) | rfl) [0, 1, 2, 3, 4, 5, 6] rfl (by first | (simp only [e_bv, e_be, k_2, if_neg c_15f]; rfl) | rfl)
  · skip
    obtain rfl : 3 = r_1 := (hr_1.trans (by rw [k_2]; rfl)).symm
    refine g_istore B [(5, .int 3), (0, .ref (ed 0)), (1, .int i), (2, .int pi), (3, .int fo), (4, .int ga)] dX2_begin_4 (Nat.le_of_ble_eq_true rfl) rfl ?_
    refine g_aload_n B 0 1 dX2_begin_6 rfl rfl ?_
    refine g_get (C := RX2) (T := TX2) (N := 12) B 1 0 0 (.ref (ed 1)) in_X2 rfl q92 rfl (Nat.le_of_ble_eq_true rfl) (fun _ h9 => h9) rfl dX2_begin_7 ?_
    refine g_iload B 0 dX2_begin_10 rfl ?_
    refine g_cuV_q (C := RJ2) (T := TJ2) (N := 3) (As := [.int 3]) B (m_J2_get l hst g (ed 1) (ed 2) al4 10 (vq ed) 3 3 (ed 6) (by decide) (by decide) (by decide) (vpc rfl) rfl) 7 0 rfl rfl [1, 2] [] (lw_V q410 q411 q412 q29 q413) nvJ2_get rfl rfl rfl rfl (Nat.le_of_ble_eq_true rfl) dX2_begin_12 ⟨Nat.le_of_ble_eq_true rfl, Nat.le_of_ble_eq_true rfl⟩ ⟨Nat.le_of_ble_eq_true rfl, Nat.le_of_ble_eq_true rfl⟩ (fun r_18 ur_18 hr_18 => ?_)
    obtain rfl : some (ed 6) = r_18 := (hr_18).symm
    refine g_eqs (st' := [.ref (ed 6)]) rfl ?_
    refine g_cast (C := RX5) (T := TX5) (N := 11) B 4 6 q424 rfl rfl dX2_begin_15 ?_
    refine g_astore B [(6, .ref (ed 6)), (5, .int 3), (0, .ref (ed 0)), (1, .int i), (2, .int pi), (3, .int fo), (4, .int ga)] dX2_begin_18 (Nat.le_of_ble_eq_true rfl) rfl ?_
    refine g_aload B 0 dX2_begin_20 rfl ?_
    refine g_cuV_i (C := RX5) (T := TX5) (N := 11) (As := []) B (m_X5_isFree l hst g (ed 6) (vf 3)) 4 0 rfl rfl [6] [] (lw_V q425 q426 q427 q37 q428) nvX5_isFree rfl rfl rfl rfl (Nat.le_of_ble_eq_true rfl) dX2_begin_22 ⟨Nat.le_of_ble_eq_true rfl, Nat.le_of_ble_eq_true rfl⟩ ⟨Nat.le_of_ble_eq_true rfl, Nat.le_of_ble_eq_true rfl⟩ (fun r_19 ur_19 hr_19 => ?_)
    have hr_19 : r_19 = (v_free (vf 3)) := hr_19
    refine g_if_ne (tgt := 38) B dX2_begin_25 (by decide) (fun c_20 => ?_) (fun c_20 => ?_)
    · skip
      have c_20f := vfr1 (hr_19 ▸ c_20)
      refine g_aload_n B 0 2 dX2_begin_38 rfl rfl ?_
      refine g_dup B dX2_begin_39 rfl ?_
      refine g_get (C := RX2) (T := TX2) (N := 12) B 1 0 4 (.int (en 2)) in_X2 rfl q100 rfl (Nat.le_of_ble_eq_true rfl) (fun _ h9 => h9) rfl dX2_begin_40 ?_
      refine g_iconst (v := 1) B dX2_begin_43 kc_1 ?_
      refine g_iadd B dX2_begin_44 ?_
      refine g_put (C := RX2) (T := TX2) (N := 12) (ty := .int) (v := .int ((en 2) + 1)) B 1 0 4 [((ed 0), cE (ed 1) (ed 7) (ad 0) (upd en 2 ((en 2) + 1))), ((ed 1), cA (ed 2) al4), ((ed 2), .inl (g.2.2.1, 10, .inr (.inr (.inr (.inr (vq ed)))))), ((ed 3), cV (vf 0)), ((ed 4), cV (vf 1)), ((ed 5), cV (vf 2)), ((ed 6), cV (vf 3))] in_X2 tyX2 tyX2_ok nmX2 rfl q100 rfl (Nat.le_of_ble_eq_true rfl) (fun _ h9 => h9) rfl rfl rfl rfl (Nat.le_of_ble_eq_true rfl) rfl dX2_begin_45 ?_
      refine g_aload B 0 dX2_begin_48 rfl ?_
      refine g_iload_n B 1 3 dX2_begin_50 rfl rfl ?_
      refine g_iload_n B 2 4 dX2_begin_51 rfl rfl ?_
      refine g_iload_n B 3 5 dX2_begin_52 rfl rfl ?_
      refine g_iload B 6 dX2_begin_53 rfl ?_
      refine g_aload_n B 0 2 dX2_begin_55 rfl rfl ?_
      refine g_get (C := RX2) (T := TX2) (N := 12) B 1 0 4 (.int ((en 2) + 1)) in_X2 rfl q100 rfl (Nat.le_of_ble_eq_true rfl) (fun _ h9 => h9) rfl dX2_begin_56 ?_
      refine g_cV_v (C := RX5) (T := TX5) (N := 11) (As := [.int i, .int pi, .int fo, .int ga, .int ((en 2) + 1)]) B (m_X5_begin l hst g (ed 6) (vf 3) i pi fo ga ((en 2) + 1)) 4 0 rfl rfl [6] [] (lw_V q477 q478 q479 q37 q480) nvX5_begin rfl rfl (fun _ => rfl) rfl rfl (Nat.le_of_ble_eq_true rfl) dX2_begin_59 ⟨Nat.le_of_ble_eq_true rfl, Nat.le_of_ble_eq_true rfl⟩ ⟨Nat.le_of_ble_eq_true rfl, Nat.le_of_ble_eq_true rfl⟩ (fun ur_21 hr_21 => ?_)
      refine g_eqw (ws' := [((ed 0), cE (ed 1) (ed 7) (ad 0) (upd en 2 ((en 2) + 1))), ((ed 1), cA (ed 2) al4), ((ed 2), .inl (g.2.2.1, 10, .inr (.inr (.inr (.inr (vq ed)))))), ((ed 3), cV (vf 0)), ((ed 4), cV (vf 1)), ((ed 5), cV (vf 2)), ((ed 6), cV (v_begin (vf 3) i pi fo ga ((en 2) + 1)))]) rfl ?_
      refine g_iload B 1 dX2_begin_62 rfl ?_
      subst hr_19
      exact g_iret B hr dX2_begin_64 (Nat.le_of_ble_eq_true rfl) (Nat.le_of_ble_eq_true rfl) () (by first | (simp only [e_bv, e_be, k_2, if_pos c_20f]; done) | (simp only [e_bv, e_be, k_2, if_pos c_20f]; rfl) | rfl) [0, 1, 2, 3, 4, 5, 6] rfl (by first | (simp only [e_bv, e_be, k_2, if_pos c_20f]; rfl) | rfl)
    · skip
      have c_20f := vfr0 (hr_19 ▸ c_20)
      refine g_aload_n B 0 2 dX2_begin_28 rfl rfl ?_
      refine g_dup B dX2_begin_29 rfl ?_
      refine g_get (C := RX2) (T := TX2) (N := 12) B 1 0 5 (.int (en 3)) in_X2 rfl q101 rfl (Nat.le_of_ble_eq_true rfl) (fun _ h9 => h9) rfl dX2_begin_30 ?_
      refine g_iconst (v := 1) B dX2_begin_33 kc_1 ?_
      refine g_iadd B dX2_begin_34 ?_
      refine g_put (C := RX2) (T := TX2) (N := 12) (ty := .int) (v := .int ((en 3) + 1)) B 1 0 5 [((ed 0), cE (ed 1) (ed 7) (ad 0) (upd en 3 ((en 3) + 1))), ((ed 1), cA (ed 2) al4), ((ed 2), .inl (g.2.2.1, 10, .inr (.inr (.inr (.inr (vq ed)))))), ((ed 3), cV (vf 0)), ((ed 4), cV (vf 1)), ((ed 5), cV (vf 2)), ((ed 6), cV (vf 3))] in_X2 tyX2 tyX2_ok nmX2 rfl q101 rfl (Nat.le_of_ble_eq_true rfl) (fun _ h9 => h9) rfl rfl rfl rfl (Nat.le_of_ble_eq_true rfl) rfl dX2_begin_35 ?_
      refine g_aload_n B 0 2 dX2_begin_38 rfl rfl ?_
      refine g_dup B dX2_begin_39 rfl ?_
      refine g_get (C := RX2) (T := TX2) (N := 12) B 1 0 4 (.int (en 2)) in_X2 rfl q100 rfl (Nat.le_of_ble_eq_true rfl) (fun _ h9 => h9) rfl dX2_begin_40 ?_
      refine g_iconst (v := 1) B dX2_begin_43 kc_1 ?_
      refine g_iadd B dX2_begin_44 ?_
      refine g_put (C := RX2) (T := TX2) (N := 12) (ty := .int) (v := .int ((en 2) + 1)) B 1 0 4 [((ed 0), cE (ed 1) (ed 7) (ad 0) (upd (upd en 3 ((en 3) + 1)) 2 ((en 2) + 1))), ((ed 1), cA (ed 2) al4), ((ed 2), .inl (g.2.2.1, 10, .inr (.inr (.inr (.inr (vq ed)))))), ((ed 3), cV (vf 0)), ((ed 4), cV (vf 1)), ((ed 5), cV (vf 2)), ((ed 6), cV (vf 3))] in_X2 tyX2 tyX2_ok nmX2 rfl q100 rfl (Nat.le_of_ble_eq_true rfl) (fun _ h9 => h9) rfl rfl rfl rfl (Nat.le_of_ble_eq_true rfl) rfl dX2_begin_45 ?_
      refine g_aload B 0 dX2_begin_48 rfl ?_
      refine g_iload_n B 1 3 dX2_begin_50 rfl rfl ?_
      refine g_iload_n B 2 4 dX2_begin_51 rfl rfl ?_
      refine g_iload_n B 3 5 dX2_begin_52 rfl rfl ?_
      refine g_iload B 6 dX2_begin_53 rfl ?_
      refine g_aload_n B 0 2 dX2_begin_55 rfl rfl ?_
      refine g_get (C := RX2) (T := TX2) (N := 12) B 1 0 4 (.int ((en 2) + 1)) in_X2 rfl q100 rfl (Nat.le_of_ble_eq_true rfl) (fun _ h9 => h9) rfl dX2_begin_56 ?_
      refine g_cV_v (C := RX5) (T := TX5) (N := 11) (As := [.int i, .int pi, .int fo, .int ga, .int ((en 2) + 1)]) B (m_X5_begin l hst g (ed 6) (vf 3) i pi fo ga ((en 2) + 1)) 4 0 rfl rfl [6] [] (lw_V q477 q478 q479 q37 q480) nvX5_begin rfl rfl (fun _ => rfl) rfl rfl (Nat.le_of_ble_eq_true rfl) dX2_begin_59 ⟨Nat.le_of_ble_eq_true rfl, Nat.le_of_ble_eq_true rfl⟩ ⟨Nat.le_of_ble_eq_true rfl, Nat.le_of_ble_eq_true rfl⟩ (fun ur_22 hr_22 => ?_)
      refine g_eqw (ws' := [((ed 0), cE (ed 1) (ed 7) (ad 0) (upd (upd en 3 ((en 3) + 1)) 2 ((en 2) + 1))), ((ed 1), cA (ed 2) al4), ((ed 2), .inl (g.2.2.1, 10, .inr (.inr (.inr (.inr (vq ed)))))), ((ed 3), cV (vf 0)), ((ed 4), cV (vf 1)), ((ed 5), cV (vf 2)), ((ed 6), cV (v_begin (vf 3) i pi fo ga ((en 2) + 1)))]) rfl ?_
      refine g_iload B 1 dX2_begin_62 rfl ?_
      subst hr_19
      exact g_iret B hr dX2_begin_64 (Nat.le_of_ble_eq_true rfl) (Nat.le_of_ble_eq_true rfl) () (by first | (simp only [e_bv, e_be, k_2, if_neg c_20f]; done) | (simp only [e_bv, e_be, k_2, if_neg c_20f]; rfl) | rfl) [0, 1, 2, 3, 4, 5, 6] rfl (by first | (simp only [e_bv, e_be, k_2, if_neg c_20f]; rfl) | rfl)

set_option maxHeartbeats 4000000 in
set_option maxRecDepth 100000 in
theorem m_X2_given (l : Launch) (hst : l.stackTraces = false) (g : gG) (ad ed : Nat → Nat) (e0 : Nat) (mi : Nat → Int32) (lo su : Int64) (en dr : Nat → Int32) (ig : Nat → Nat → Int32) (h1 : Nat) (f : Nat → Int32) (kk : Nat) (hk4 : kk < 4) (e2 : f 2 = nI kk) (hI : IOK (ig kk)) (hV : VOK f) (hc : ¬ en 1 < 0) : gMi l yX2_given cX2_given 6 .int 3 68 1 12 g [(h1, cV f), ((ed 0), cE (ed 1) (ed 7) (ad 0) en), ((ad 0), cM ad e0 mi lo su), ((ad 1), .inl (g.2.1, 32, .inl dr)), ((ad 2), cA (ad 3) al4), ((ad 3), .inl (g.2.2.1, 10, .inr (.inr (.inr (.inr (iq ad)))))), ((ad (4 + kk)), cI (ig kk))] [.ref (ed 0), .ref h1] (fun (r : Int32) (_ : Unit) => r = gv_r dr (ig kk) (en 1) f) (fun _ : Unit => [(h1, cV (gv_f dr (ig kk) (en 1) f)), ((ed 0), cE (ed 1) (ed 7) (ad 0) en), ((ad 0), cM ad e0 mi lo su), ((ad 1), .inl (g.2.1, 32, .inl dr)), ((ad 2), cA (ad 3) al4), ((ad 3), .inl (g.2.2.1, 10, .inr (.inr (.inr (.inr (iq ad)))))), ((ad (4 + kk)), cI (ig kk))]) := by
  intro sz
  refine g_ent (by decide) hst [(0, .ref (ed 0)), (1, .ref h1)] (Nat.le_of_ble_eq_true rfl) rfl ?_
  intro p e s m below meth c B hr hnm hsz
  have B : gB p l s m ([.ref (ed 0), .ref h1] : List Value).toArray meth c RX2 cX2_given 6 g (va_A [(h1, cV f), ((ed 0), cE (ed 1) (ed 7) (ad 0) en), ((ad 0), cM ad e0 mi lo su), ((ad 1), .inl (g.2.1, 32, .inl dr)), ((ad 2), cA (ad 3) al4), ((ad 3), .inl (g.2.2.1, 10, .inr (.inr (.inr (.inr (iq ad)))))), ((ad (4 + kk)), cI (ig kk))] sz) := B
  refine g_aload_n B 1 1 dX2_given_0 rfl rfl ?_
  refine g_cuV_i (C := RX5) (T := TX5) (N := 11) (As := []) B (m_X5_isFree l hst g h1 f) 4 0 rfl rfl [0] [] (lw_V q425 q426 q427 q37 q428) nvX5_isFree rfl rfl rfl rfl (Nat.le_of_ble_eq_true rfl) dX2_given_1 ⟨Nat.le_of_ble_eq_true rfl, Nat.le_of_ble_eq_true rfl⟩ ⟨Nat.le_of_ble_eq_true rfl, Nat.le_of_ble_eq_true rfl⟩ (fun r_1 ur_1 hr_1 => ?_)
  have hr_1 : r_1 = (v_free f) := hr_1
  refine g_if_eq (tgt := 9) B dX2_given_4 (by decide) (fun c_2 => ?_) (fun c_2 => ?_)
  · skip
    have c_2f := vfr0 (hr_1 ▸ c_2)
    refine g_aload_n B 0 0 dX2_given_9 rfl rfl ?_
    refine g_get (C := RX2) (T := TX2) (N := 12) B 1 1 11 (.ref (ad 0)) in_X2 rfl q112 rfl (Nat.le_of_ble_eq_true rfl) (fun _ h9 => h9) rfl dX2_given_10 ?_
    refine g_getN (C := RX1) (T := TX1) (N := 17) B 0 2 1 (.ref (ad 2)) in_X1 rfl q343 rfl (Nat.le_of_ble_eq_true rfl) (fun _ h9 => h9) rfl dX2_given_13 ?_
    refine g_aload_n B 1 1 dX2_given_16 rfl rfl ?_
    refine g_getN (C := RX5) (T := TX5) (N := 11) B 4 0 2 (.int (f 2)) in_X5 rfl q297 rfl (Nat.le_of_ble_eq_true rfl) (fun _ h9 => h9) rfl dX2_given_17 ?_
    refine g_cuV_q (C := RJ2) (T := TJ2) (N := 3) (As := [.int (f 2)]) B (m_J2_get l hst g (ad 2) (ad 3) al4 10 (iq ad) (f 2) kk (ad (4 + kk)) (by rw [e2]; exact nI_pos (by omega)) (by rw [e2]; exact (nI_lt hk4 (by decide) : nI kk < nI 4)) (by rw [e2]; exact nI_clamp (by omega)) (by rw [e2]; exact vp_in_nI (by omega) (by decide)) (if_pos hk4)) 7 0 rfl rfl [4, 5] [] (lw_V q410 q411 q412 q29 q413) nvJ2_get rfl rfl rfl rfl (Nat.le_of_ble_eq_true rfl) dX2_given_20 ⟨Nat.le_of_ble_eq_true rfl, Nat.le_of_ble_eq_true rfl⟩ ⟨Nat.le_of_ble_eq_true rfl, Nat.le_of_ble_eq_true rfl⟩ (fun r_3 ur_3 hr_3 => ?_)
    obtain rfl : some (ad (4 + kk)) = r_3 := (hr_3).symm
    refine g_eqs (st' := [.ref (ad (4 + kk))]) rfl ?_
    refine g_cast (C := RX3) (T := TX3) (N := 12) B 2 6 q485 rfl rfl dX2_given_23 ?_
    refine g_astore_n B 2 [(2, .ref (ad (4 + kk))), (0, .ref (ed 0)), (1, .ref h1)] dX2_given_26 rfl (Nat.le_of_ble_eq_true rfl) rfl ?_
    refine g_aload_n B 1 2 dX2_given_27 rfl rfl ?_
    refine g_aload_n B 2 0 dX2_given_28 rfl rfl ?_
    refine g_cV_v (C := RX5) (T := TX5) (N := 11) (As := [.ref (ad (4 + kk))]) B (m_X5_grow l hst g h1 (ad (4 + kk)) f (ig kk) hI.z4 hI.z5 hI.z7) 4 0 rfl rfl [0, 6] [] (lw_V q486 q487 q488 q37 q489) nvX5_grow rfl rfl (fun _ => rfl) rfl rfl (Nat.le_of_ble_eq_true rfl) dX2_given_29 ⟨Nat.le_of_ble_eq_true rfl, Nat.le_of_ble_eq_true rfl⟩ ⟨Nat.le_of_ble_eq_true rfl, Nat.le_of_ble_eq_true rfl⟩ (fun ur_4 hr_4 => ?_)
    refine g_eqw (ws' := [(h1, cV (v_grow (ig kk) f)), ((ed 0), cE (ed 1) (ed 7) (ad 0) en), ((ad 0), cM ad e0 mi lo su), ((ad 1), .inl (g.2.1, 32, .inl dr)), ((ad 2), cA (ad 3) al4), ((ad 3), .inl (g.2.2.1, 10, .inr (.inr (.inr (.inr (iq ad)))))), ((ad (4 + kk)), cI (ig kk))]) rfl ?_
    refine g_aload_n B 1 2 dX2_given_32 rfl rfl ?_
    refine g_cuV_i (C := RX5) (T := TX5) (N := 11) (As := []) B (m_X5_isFree l hst g h1 (v_grow (ig kk) f)) 4 0 rfl rfl [0] [] (lw_V q425 q426 q427 q37 q428) nvX5_isFree rfl rfl rfl rfl (Nat.le_of_ble_eq_true rfl) dX2_given_33 ⟨Nat.le_of_ble_eq_true rfl, Nat.le_of_ble_eq_true rfl⟩ ⟨Nat.le_of_ble_eq_true rfl, Nat.le_of_ble_eq_true rfl⟩ (fun r_5 ur_5 hr_5 => ?_)
    have hr_5 : r_5 = (v_free (v_grow (ig kk) f)) := hr_5
    refine g_if_eq (tgt := 41) B dX2_given_36 (by decide) (fun c_6 => ?_) (fun c_6 => ?_)
    · skip
      have c_6f := vfr0 (hr_5 ▸ c_6)
      refine g_aload_n B 2 0 dX2_given_41 rfl rfl ?_
      refine g_getN (C := RX3) (T := TX3) (N := 12) B 2 6 10 (.int ((ig kk) 10)) in_X3 rfl q170 rfl (Nat.le_of_ble_eq_true rfl) (fun _ h9 => h9) rfl dX2_given_42 ?_
      refine g_aload_n B 0 1 dX2_given_45 rfl rfl ?_
      refine g_get (C := RX2) (T := TX2) (N := 12) B 1 1 11 (.ref (ad 0)) in_X2 rfl q112 rfl (Nat.le_of_ble_eq_true rfl) (fun _ h9 => h9) rfl dX2_given_46 ?_
      refine g_iconst (v := 2) B dX2_given_49 kc_2 ?_
      refine g_aload_n B 0 1 dX2_given_50 rfl rfl ?_
      refine g_get (C := RX2) (T := TX2) (N := 12) B 1 1 3 (.int (en 1)) in_X2 rfl q98 rfl (Nat.le_of_ble_eq_true rfl) (fun _ h9 => h9) rfl dX2_given_51 ?_
      refine g_aload_n B 2 0 dX2_given_54 rfl rfl ?_
      refine g_getN (C := RX3) (T := TX3) (N := 12) B 2 6 11 (.int ((ig kk) 11)) in_X3 rfl q173 rfl (Nat.le_of_ble_eq_true rfl) (fun _ h9 => h9) rfl dX2_given_55 ?_
      refine g_irem B dX2_given_58 hI.z11 ?_
      refine g_ldc (v := 65536) B dX2_given_59 q493 ?_
      refine g_imul B dX2_given_61 ?_
      refine g_aload_n B 2 0 dX2_given_62 rfl rfl ?_
      refine g_getN (C := RX3) (T := TX3) (N := 12) B 2 6 11 (.int ((ig kk) 11)) in_X3 rfl q173 rfl (Nat.le_of_ble_eq_true rfl) (fun _ h9 => h9) rfl dX2_given_63 ?_
      refine g_idiv B dX2_given_66 hI.z11 ?_
      refine g_cuVN_i (C := RX1) (T := TX1) (N := 17) (As := [.int 2, .int (((prm (en 1) ((ig kk) 11)) * 65536) / ((ig kk) 11))]) B (m_X1_waveAt l hst g ad e0 mi lo su dr 2 (((prm (en 1) ((ig kk) 11)) * 65536) / ((ig kk) 11)) (pv_1 hc hI.2.2.2.2.2.2.2.2.2.2.2)) 0 0 rfl rfl [2, 3] [.int ((ig kk) 10)] (lw_meth q497) q494 q26 q496 qs7 nsX1_waveAt rfl rfl rfl rfl (Nat.le_of_ble_eq_true rfl) dX2_given_67 ⟨Nat.le_of_ble_eq_true rfl, Nat.le_of_ble_eq_true rfl⟩ ⟨Nat.le_of_ble_eq_true rfl, Nat.le_of_ble_eq_true rfl⟩ (fun r_7 ur_7 hr_7 => ?_)
      have hr_7 : r_7 = (pwav dr 2 (((prm (en 1) ((ig kk) 11)) * 65536) / ((ig kk) 11))) := hr_7
      refine g_imul B dX2_given_70 ?_
      refine g_sipush (v := 1000) B dX2_given_71 ks_1000 ?_
      refine g_idiv B dX2_given_74 (by decide) ?_
      refine g_topi (fun x_8 ex_8 => ?_)
      refine g_istore_n B 3 [(3, .int x_8), (2, .ref (ad (4 + kk))), (0, .ref (ed 0)), (1, .ref h1)] dX2_given_75 rfl (Nat.le_of_ble_eq_true rfl) rfl ?_
      refine g_aload_n B 0 2 dX2_given_76 rfl rfl ?_
      refine g_get (C := RX2) (T := TX2) (N := 12) B 1 1 11 (.ref (ad 0)) in_X2 rfl q112 rfl (Nat.le_of_ble_eq_true rfl) (fun _ h9 => h9) rfl dX2_given_77 ?_
      refine g_aload_n B 2 1 dX2_given_80 rfl rfl ?_
      refine g_getN (C := RX3) (T := TX3) (N := 12) B 2 6 0 (.int ((ig kk) 0)) in_X3 rfl q144 rfl (Nat.le_of_ble_eq_true rfl) (fun _ h9 => h9) rfl dX2_given_81 ?_
      refine g_aload_n B 1 3 dX2_given_84 rfl rfl ?_
      refine g_getN (C := RX5) (T := TX5) (N := 11) B 4 0 6 (.int ((v_grow (ig kk) f) 6)) in_X5 rfl q307 rfl (Nat.le_of_ble_eq_true rfl) (fun _ h9 => h9) rfl dX2_given_85 ?_
      refine g_cuVN_i (C := RX1) (T := TX1) (N := 17) (As := [.int ((ig kk) 0), .int ((v_grow (ig kk) f) 6)]) B (m_X1_waveAt l hst g ad e0 mi lo su dr ((ig kk) 0) ((v_grow (ig kk) f) 6) (by rw [v_grow_o _ _ (by decide) (by decide)]; exact hV.2.2.1)) 0 0 rfl rfl [2, 3] [] (lw_meth q497) q494 q26 q496 qs7 nsX1_waveAt rfl rfl rfl rfl (Nat.le_of_ble_eq_true rfl) dX2_given_88 ⟨Nat.le_of_ble_eq_true rfl, Nat.le_of_ble_eq_true rfl⟩ ⟨Nat.le_of_ble_eq_true rfl, Nat.le_of_ble_eq_true rfl⟩ (fun r_9 ur_9 hr_9 => ?_)
      have hr_9 : r_9 = (pwav dr ((ig kk) 0) ((v_grow (ig kk) f) 6)) := hr_9
      refine g_bipush (v := 100) B dX2_given_91 kb_100 ?_
      refine g_aload_n B 2 1 dX2_given_93 rfl rfl ?_
      refine g_getN (C := RX3) (T := TX3) (N := 12) B 2 6 3 (.int ((ig kk) 3)) in_X3 rfl q150 rfl (Nat.le_of_ble_eq_true rfl) (fun _ h9 => h9) rfl dX2_given_94 ?_
      refine g_isub B dX2_given_97 ?_
      refine g_imul B dX2_given_98 ?_
      refine g_aload_n B 0 2 dX2_given_99 rfl rfl ?_
      refine g_get (C := RX2) (T := TX2) (N := 12) B 1 1 11 (.ref (ad 0)) in_X2 rfl q112 rfl (Nat.le_of_ble_eq_true rfl) (fun _ h9 => h9) rfl dX2_given_100 ?_
      refine g_aload_n B 2 1 dX2_given_103 rfl rfl ?_
      refine g_getN (C := RX3) (T := TX3) (N := 12) B 2 6 1 (.int ((ig kk) 1)) in_X3 rfl q146 rfl (Nat.le_of_ble_eq_true rfl) (fun _ h9 => h9) rfl dX2_given_104 ?_
      refine g_aload_n B 1 3 dX2_given_107 rfl rfl ?_
      refine g_getN (C := RX5) (T := TX5) (N := 11) B 4 0 7 (.int ((v_grow (ig kk) f) 7)) in_X5 rfl q310 rfl (Nat.le_of_ble_eq_true rfl) (fun _ h9 => h9) rfl dX2_given_108 ?_
      refine g_cuVN_i (C := RX1) (T := TX1) (N := 17) (As := [.int ((ig kk) 1), .int ((v_grow (ig kk) f) 7)]) B (m_X1_waveAt l hst g ad e0 mi lo su dr ((ig kk) 1) ((v_grow (ig kk) f) 7) (by rw [v_grow_o _ _ (by decide) (by decide)]; exact hV.2.2.2)) 0 0 rfl rfl [2, 3] [.int (r_9 * (100 - ((ig kk) 3)))] (lw_meth q497) q494 q26 q496 qs7 nsX1_waveAt rfl rfl rfl rfl (Nat.le_of_ble_eq_true rfl) dX2_given_111 ⟨Nat.le_of_ble_eq_true rfl, Nat.le_of_ble_eq_true rfl⟩ ⟨Nat.le_of_ble_eq_true rfl, Nat.le_of_ble_eq_true rfl⟩ (fun r_10 ur_10 hr_10 => ?_)
      have hr_10 : r_10 = (pwav dr ((ig kk) 1) ((v_grow (ig kk) f) 7)) := hr_10
      refine g_aload_n B 2 1 dX2_given_114 rfl rfl ?_
      refine g_getN (C := RX3) (T := TX3) (N := 12) B 2 6 3 (.int ((ig kk) 3)) in_X3 rfl q150 rfl (Nat.le_of_ble_eq_true rfl) (fun _ h9 => h9) rfl dX2_given_115 ?_
      refine g_imul B dX2_given_118 ?_
      refine g_iadd B dX2_given_119 ?_
      refine g_bipush (v := 100) B dX2_given_120 kb_100 ?_
      refine g_idiv B dX2_given_122 (by decide) ?_
      refine g_topi (fun x_11 ex_11 => ?_)
      refine g_istore B [(4, .int x_11), (3, .int x_8), (2, .ref (ad (4 + kk))), (0, .ref (ed 0)), (1, .ref h1)] dX2_given_123 (Nat.le_of_ble_eq_true rfl) rfl ?_
      refine g_aload_n B 1 4 dX2_given_125 rfl rfl ?_
      refine g_getN (C := RX5) (T := TX5) (N := 11) B 4 0 3 (.int ((v_grow (ig kk) f) 3)) in_X5 rfl q300 rfl (Nat.le_of_ble_eq_true rfl) (fun _ h9 => h9) rfl dX2_given_126 ?_
      refine g_cuSN_i (As := [.int ((v_grow (ig kk) f) 3)]) B (m_X1_strideOf l hst g ((v_grow (ig kk) f) 3) (by rw [v_grow_o _ _ (by decide) (by decide)]; exact hV.2.1)) [] [] (lw_meth q504) q502 q26 q503 nsX1_strideOf rfl rfl rfl rfl (Nat.le_of_ble_eq_true rfl) dX2_given_129 ⟨Nat.le_of_ble_eq_true rfl, Nat.le_of_ble_eq_true rfl⟩ ⟨Nat.le_of_ble_eq_true rfl, Nat.le_of_ble_eq_true rfl⟩ (fun r_12 ur_12 hr_12 => ?_)
      have hr_12 : r_12 = (pstr ((v_grow (ig kk) f) 3)) := hr_12
      refine g_iload_n B 3 1 dX2_given_132 rfl rfl ?_
      refine g_iadd B dX2_given_133 ?_
      refine g_istore B [(5, .int (r_12 + x_8)), (4, .int x_11), (3, .int x_8), (2, .ref (ad (4 + kk))), (0, .ref (ed 0)), (1, .ref h1)] dX2_given_134 (Nat.le_of_ble_eq_true rfl) rfl ?_
      refine g_aload_n B 1 5 dX2_given_136 rfl rfl ?_
      refine g_aload_n B 1 5 dX2_given_137 rfl rfl ?_
      refine g_getN (C := RX5) (T := TX5) (N := 11) B 4 0 6 (.int ((v_grow (ig kk) f) 6)) in_X5 rfl q307 rfl (Nat.le_of_ble_eq_true rfl) (fun _ h9 => h9) rfl dX2_given_138 ?_
      refine g_iload B 0 dX2_given_141 rfl ?_
      refine g_iadd B dX2_given_143 ?_
      refine g_ldc (v := 65536) B dX2_given_144 q493 ?_
      refine g_cuS_i (As := [.int (((v_grow (ig kk) f) 6) + (r_12 + x_8)), .int 65536]) B (m_J4_floorMod l hst g (((v_grow (ig kk) f) 6) + (r_12 + x_8)) 65536 (by decide)) [] [.ref h1] (lw_S q505 q506 q33 q507) nsJ4_floorMod rfl rfl rfl rfl (Nat.le_of_ble_eq_true rfl) dX2_given_146 ⟨Nat.le_of_ble_eq_true rfl, Nat.le_of_ble_eq_true rfl⟩ ⟨Nat.le_of_ble_eq_true rfl, Nat.le_of_ble_eq_true rfl⟩ (fun r_13 ur_13 hr_13 => ?_)
      have hr_13 : r_13 = (pfm (((v_grow (ig kk) f) 6) + (r_12 + x_8)) 65536) := hr_13
      refine g_putN (C := RX5) (T := TX5) (N := 11) (ty := .int) (v := .int r_13) B 4 0 6 [(h1, cV (upd (v_grow (ig kk) f) 6 r_13)), ((ed 0), cE (ed 1) (ed 7) (ad 0) en), ((ad 0), cM ad e0 mi lo su), ((ad 1), .inl (g.2.1, 32, .inl dr)), ((ad 2), cA (ad 3) al4), ((ad 3), .inl (g.2.2.1, 10, .inr (.inr (.inr (.inr (iq ad)))))), ((ad (4 + kk)), cI (ig kk))] in_X5 tyX5 tyX5_ok nmX5 rfl q307 rfl (Nat.le_of_ble_eq_true rfl) (fun _ h9 => h9) rfl rfl rfl rfl (Nat.le_of_ble_eq_true rfl) rfl dX2_given_149 ?_
      refine g_aload_n B 1 5 dX2_given_152 rfl rfl ?_
      refine g_aload_n B 1 5 dX2_given_153 rfl rfl ?_
      refine g_getN (C := RX5) (T := TX5) (N := 11) B 4 0 7 (.int ((v_grow (ig kk) f) 7)) in_X5 rfl q310 rfl (Nat.le_of_ble_eq_true rfl) (fun _ h9 => h9) rfl dX2_given_154 ?_
      refine g_iload B 0 dX2_given_157 rfl ?_
      refine g_iadd B dX2_given_159 ?_
      refine g_aload_n B 2 3 dX2_given_160 rfl rfl ?_
      refine g_getN (C := RX3) (T := TX3) (N := 12) B 2 6 2 (.int ((ig kk) 2)) in_X3 rfl q148 rfl (Nat.le_of_ble_eq_true rfl) (fun _ h9 => h9) rfl dX2_given_161 ?_
      refine g_iadd B dX2_given_164 ?_
      refine g_ldc (v := 65536) B dX2_given_165 q493 ?_
      refine g_cuS_i (As := [.int ((((v_grow (ig kk) f) 7) + (r_12 + x_8)) + ((ig kk) 2)), .int 65536]) B (m_J4_floorMod l hst g ((((v_grow (ig kk) f) 7) + (r_12 + x_8)) + ((ig kk) 2)) 65536 (by decide)) [] [.ref h1] (lw_S q505 q506 q33 q507) nsJ4_floorMod rfl rfl rfl rfl (Nat.le_of_ble_eq_true rfl) dX2_given_167 ⟨Nat.le_of_ble_eq_true rfl, Nat.le_of_ble_eq_true rfl⟩ ⟨Nat.le_of_ble_eq_true rfl, Nat.le_of_ble_eq_true rfl⟩ (fun r_14 ur_14 hr_14 => ?_)
      have hr_14 : r_14 = (pfm ((((v_grow (ig kk) f) 7) + (r_12 + x_8)) + ((ig kk) 2)) 65536) := hr_14
      refine g_putN (C := RX5) (T := TX5) (N := 11) (ty := .int) (v := .int r_14) B 4 0 7 [(h1, cV (upd (upd (v_grow (ig kk) f) 6 r_13) 7 r_14)), ((ed 0), cE (ed 1) (ed 7) (ad 0) en), ((ad 0), cM ad e0 mi lo su), ((ad 1), .inl (g.2.1, 32, .inl dr)), ((ad 2), cA (ad 3) al4), ((ad 3), .inl (g.2.2.1, 10, .inr (.inr (.inr (.inr (iq ad)))))), ((ad (4 + kk)), cI (ig kk))] in_X5 tyX5 tyX5_ok nmX5 rfl q310 rfl (Nat.le_of_ble_eq_true rfl) (fun _ h9 => h9) rfl rfl rfl rfl (Nat.le_of_ble_eq_true rfl) rfl dX2_given_170 ?_
      refine g_aload_n B 1 5 dX2_given_173 rfl rfl ?_
      refine g_iload B 1 dX2_given_174 rfl ?_
      refine g_aload_n B 2 3 dX2_given_176 rfl rfl ?_
      refine g_cV_i (C := RX5) (T := TX5) (N := 11) (As := [.int x_11, .ref (ad (4 + kk))]) B (m_X5_filtered l hst g h1 (ad (4 + kk)) (upd (upd (v_grow (ig kk) f) 6 r_13) 7 r_14) (ig kk) x_11) 4 0 rfl rfl [0, 6] [] (lw_V q508 q509 q510 q37 q511) nvX5_filtered rfl rfl (fun _ => rfl) rfl rfl (Nat.le_of_ble_eq_true rfl) dX2_given_177 ⟨Nat.le_of_ble_eq_true rfl, Nat.le_of_ble_eq_true rfl⟩ ⟨Nat.le_of_ble_eq_true rfl, Nat.le_of_ble_eq_true rfl⟩ (fun r_15 ur_15 hr_15 => ?_)
      refine g_eqw (ws' := [(h1, cV (v_filt (ig kk) (upd (upd (v_grow (ig kk) f) 6 r_13) 7 r_14) x_11)), ((ed 0), cE (ed 1) (ed 7) (ad 0) en), ((ad 0), cM ad e0 mi lo su), ((ad 1), .inl (g.2.1, 32, .inl dr)), ((ad 2), cA (ad 3) al4), ((ad 3), .inl (g.2.2.1, 10, .inr (.inr (.inr (.inr (iq ad)))))), ((ad (4 + kk)), cI (ig kk))]) rfl ?_
      have hr_15 : r_15 = (v_out (ig kk) (upd (upd (v_grow (ig kk) f) 6 r_13) 7 r_14)) := hr_15
      subst hr_1
      subst hr_5
      subst hr_7
      subst ex_8
      subst hr_9
      subst hr_10
      subst ex_11
      subst hr_12
      subst hr_13
      subst hr_14
      subst hr_15
      exact g_iret B hr dX2_given_180 (Nat.le_of_ble_eq_true rfl) (Nat.le_of_ble_eq_true rfl) () (by first | (simp only [gv_r, gv_f, gv_2, gv_o, gv_v, if_neg c_2f, if_neg c_6f]; done) | (simp only [gv_r, gv_f, gv_2, gv_o, gv_v, if_neg c_2f, if_neg c_6f]; rfl) | rfl) [0, 1, 2, 3, 4, 5, 6] rfl (by first | (simp only [gv_r, gv_f, gv_2, gv_o, gv_v, if_neg c_2f, if_neg c_6f]; rfl) | rfl)
    · skip
      have c_6f := vfr1 (hr_5 ▸ c_6)
      refine g_iconst (v := 0) B dX2_given_39 kc_0 ?_
      subst hr_1
      subst hr_5
      exact g_iret B hr dX2_given_40 (Nat.le_of_ble_eq_true rfl) (Nat.le_of_ble_eq_true rfl) () (by first | (simp only [gv_r, gv_f, gv_2, gv_o, gv_v, if_neg c_2f, if_pos c_6f]; done) | (simp only [gv_r, gv_f, gv_2, gv_o, gv_v, if_neg c_2f, if_pos c_6f]; rfl) | rfl) [0, 1, 2, 3, 4, 5, 6] rfl (by first | (simp only [gv_r, gv_f, gv_2, gv_o, gv_v, if_neg c_2f, if_pos c_6f]; rfl) | rfl)
  · skip
    have c_2f := vfr1 (hr_1 ▸ c_2)
    refine g_iconst (v := 0) B dX2_given_7 kc_0 ?_
    subst hr_1
    exact g_iret B hr dX2_given_8 (Nat.le_of_ble_eq_true rfl) (Nat.le_of_ble_eq_true rfl) () (by first | (simp only [gv_r, gv_f, gv_2, gv_o, gv_v, if_pos c_2f]; done) | (simp only [gv_r, gv_f, gv_2, gv_o, gv_v, if_pos c_2f]; rfl) | rfl) [0, 1, 2, 3, 4, 5, 6] rfl (by first | (simp only [gv_r, gv_f, gv_2, gv_o, gv_v, if_pos c_2f]; rfl) | rfl)
