/-! contracts: the reference, digest and constructor -/
set_option maxRecDepth 100000


set_option maxHeartbeats 4000000 in
set_option maxRecDepth 100000 in
theorem m_X6_digest (l : Launch) (hst : l.stackTraces = false) (g : gG) (mo : Nat) (th : Nat → Int32) (dd : Nat → Nat) (di : Nat → Int32) (sm : Int64) (da : Nat → Nat → Int32) (hl : rg (di 3) 0 200) : gMl l yX6_digest cX6_digest 7 1 22 0 0 g [(mo, cO (dd 0) th), ((dd 0), cD dd di sm), ((dd 3), .inl (g.2.1, 4, .inl (da 3))), ((dd 4), .inl (g.2.1, 4, .inl (da 4))), ((dd 5), .inl (g.2.1, 4, .inl (da 5))), ((dd 6), .inl (g.2.1, 4, .inl (da 6))), ((dd 7), .inl (g.2.1, 4, .inl (da 7))), ((dd 8), .inl (g.2.1, 4, .inl (da 8))), ((dd 9), .inl (g.2.1, 4, .inl (da 9))), ((dd 10), .inl (g.2.1, 4, .inl (da 10))), ((dd 11), .inl (g.2.1, 4, .inl (da 11))), ((dd 12), .inl (g.2.1, 4, .inl (da 12))), ((dd 13), .inl (g.2.1, 4, .inl (da 13))), ((dd 14), .inl (g.2.1, 200, .inl (da 14))), ((dd 16), .inl (g.2.1, 72, .inl (da 16))), ((dd 17), .inl (g.2.1, 64, .inl (da 17)))] [.ref mo] (fun (r : Int64) (_ : Unit) => r = d_dig da di) (fun _ : Unit => [(mo, cO (dd 0) (fun _ => 0)), ((dd 0), cD dd di sm), ((dd 3), .inl (g.2.1, 4, .inl (da 3))), ((dd 4), .inl (g.2.1, 4, .inl (da 4))), ((dd 5), .inl (g.2.1, 4, .inl (da 5))), ((dd 6), .inl (g.2.1, 4, .inl (da 6))), ((dd 7), .inl (g.2.1, 4, .inl (da 7))), ((dd 8), .inl (g.2.1, 4, .inl (da 8))), ((dd 9), .inl (g.2.1, 4, .inl (da 9))), ((dd 10), .inl (g.2.1, 4, .inl (da 10))), ((dd 11), .inl (g.2.1, 4, .inl (da 11))), ((dd 12), .inl (g.2.1, 4, .inl (da 12))), ((dd 13), .inl (g.2.1, 4, .inl (da 13))), ((dd 14), .inl (g.2.1, 200, .inl (da 14))), ((dd 16), .inl (g.2.1, 72, .inl (da 16))), ((dd 17), .inl (g.2.1, 64, .inl (da 17)))]) := by
  intro sz
  refine g_ent (by decide) hst [(0, .ref mo)] (Nat.le_of_ble_eq_true rfl) rfl ?_
  intro p e s m below meth c B hr hnm hsz
  have B : gB p l s m ([.ref mo] : List Value).toArray meth c RX6 cX6_digest 7 g (va_A [(mo, cO (dd 0) th), ((dd 0), cD dd di sm), ((dd 3), .inl (g.2.1, 4, .inl (da 3))), ((dd 4), .inl (g.2.1, 4, .inl (da 4))), ((dd 5), .inl (g.2.1, 4, .inl (da 5))), ((dd 6), .inl (g.2.1, 4, .inl (da 6))), ((dd 7), .inl (g.2.1, 4, .inl (da 7))), ((dd 8), .inl (g.2.1, 4, .inl (da 8))), ((dd 9), .inl (g.2.1, 4, .inl (da 9))), ((dd 10), .inl (g.2.1, 4, .inl (da 10))), ((dd 11), .inl (g.2.1, 4, .inl (da 11))), ((dd 12), .inl (g.2.1, 4, .inl (da 12))), ((dd 13), .inl (g.2.1, 4, .inl (da 13))), ((dd 14), .inl (g.2.1, 200, .inl (da 14))), ((dd 16), .inl (g.2.1, 72, .inl (da 16))), ((dd 17), .inl (g.2.1, 64, .inl (da 17)))] sz) := B
  refine g_aload_n B 0 0 dX6_digest_0 rfl rfl ?_
  refine g_iconst (v := 0) B dX6_digest_1 kc_0 ?_
  refine g_put (C := RX6) (T := TX6) (N := 2) (ty := .int) (v := .int 0) B 5 0 0 [(mo, cO (dd 0) (upd th 0 0)), ((dd 0), cD dd di sm), ((dd 3), .inl (g.2.1, 4, .inl (da 3))), ((dd 4), .inl (g.2.1, 4, .inl (da 4))), ((dd 5), .inl (g.2.1, 4, .inl (da 5))), ((dd 6), .inl (g.2.1, 4, .inl (da 6))), ((dd 7), .inl (g.2.1, 4, .inl (da 7))), ((dd 8), .inl (g.2.1, 4, .inl (da 8))), ((dd 9), .inl (g.2.1, 4, .inl (da 9))), ((dd 10), .inl (g.2.1, 4, .inl (da 10))), ((dd 11), .inl (g.2.1, 4, .inl (da 11))), ((dd 12), .inl (g.2.1, 4, .inl (da 12))), ((dd 13), .inl (g.2.1, 4, .inl (da 13))), ((dd 14), .inl (g.2.1, 200, .inl (da 14))), ((dd 16), .inl (g.2.1, 72, .inl (da 16))), ((dd 17), .inl (g.2.1, 64, .inl (da 17)))] in_X6 tyX6 tyX6_ok nmX6 rfl q1048 rfl (Nat.le_of_ble_eq_true rfl) (fun _ h9 => h9) rfl rfl rfl rfl (Nat.le_of_ble_eq_true rfl) rfl dX6_digest_2 ?_
  refine g_ldc2 (v := 1799581) B dX6_digest_5 q1319 ?_
  refine g_aload_n B 0 0 dX6_digest_8 rfl rfl ?_
  refine g_get (C := RX6) (T := TX6) (N := 2) B 5 0 1 (.ref (dd 0)) in_X6 rfl q1049 rfl (Nat.le_of_ble_eq_true rfl) (fun _ h9 => h9) rfl dX6_digest_9 ?_
  refine g_get (C := RX7) (T := TX7) (N := 35) B 6 1 28 (.int (di 12)) in_X7 rfl q964 rfl (Nat.le_of_ble_eq_true rfl) (fun _ h9 => h9) rfl dX6_digest_12 ?_
  refine g_i2l B dX6_digest_15 ?_
  refine g_ladd B dX6_digest_16 ?_
  refine g_topl (fun x_1 ex_1 => ?_)
  refine g_lstore_n B 1 [(1, .long x_1), (0, .ref mo)] dX6_digest_17 rfl (Nat.le_of_ble_eq_true rfl) rfl ?_
  refine g_iconst (v := 0) B dX6_digest_18 kc_0 ?_
  refine g_istore_n B 3 [(3, .int 0), (1, .long x_1), (0, .ref mo)] dX6_digest_19 rfl (Nat.le_of_ble_eq_true rfl) rfl ?_
  refine g_lvq (lv' := [(3, .int (nI 0)), (1, .long (dgN (da 17) x_1 0)), (0, .ref mo)]) (by simp only [nI_0, dgN_0, dgM_0]) ?_
  refine g_loop (P := fun t_2 => gW p l e (gRm 1 22 0 0) s m ([.ref mo] : List Value).toArray below meth c (MQ below (va_Ql (fun (r : Int64) (_ : Unit) => r = d_dig da di) (fun u t => gE g (va_A [(mo, cO (dd 0) th), ((dd 0), cD dd di sm), ((dd 3), .inl (g.2.1, 4, .inl (da 3))), ((dd 4), .inl (g.2.1, 4, .inl (da 4))), ((dd 5), .inl (g.2.1, 4, .inl (da 5))), ((dd 6), .inl (g.2.1, 4, .inl (da 6))), ((dd 7), .inl (g.2.1, 4, .inl (da 7))), ((dd 8), .inl (g.2.1, 4, .inl (da 8))), ((dd 9), .inl (g.2.1, 4, .inl (da 9))), ((dd 10), .inl (g.2.1, 4, .inl (da 10))), ((dd 11), .inl (g.2.1, 4, .inl (da 11))), ((dd 12), .inl (g.2.1, 4, .inl (da 12))), ((dd 13), .inl (g.2.1, 4, .inl (da 13))), ((dd 14), .inl (g.2.1, 200, .inl (da 14))), ((dd 16), .inl (g.2.1, 72, .inl (da 16))), ((dd 17), .inl (g.2.1, 64, .inl (da 17)))] sz) ((fun _ : Unit => [(mo, cO (dd 0) (fun _ => 0)), ((dd 0), cD dd di sm), ((dd 3), .inl (g.2.1, 4, .inl (da 3))), ((dd 4), .inl (g.2.1, 4, .inl (da 4))), ((dd 5), .inl (g.2.1, 4, .inl (da 5))), ((dd 6), .inl (g.2.1, 4, .inl (da 6))), ((dd 7), .inl (g.2.1, 4, .inl (da 7))), ((dd 8), .inl (g.2.1, 4, .inl (da 8))), ((dd 9), .inl (g.2.1, 4, .inl (da 9))), ((dd 10), .inl (g.2.1, 4, .inl (da 10))), ((dd 11), .inl (g.2.1, 4, .inl (da 11))), ((dd 12), .inl (g.2.1, 4, .inl (da 12))), ((dd 13), .inl (g.2.1, 4, .inl (da 13))), ((dd 14), .inl (g.2.1, 200, .inl (da 14))), ((dd 16), .inl (g.2.1, 72, .inl (da 16))), ((dd 17), .inl (g.2.1, 64, .inl (da 17)))]) u) t) (va_A [(mo, cO (dd 0) th), ((dd 0), cD dd di sm), ((dd 3), .inl (g.2.1, 4, .inl (da 3))), ((dd 4), .inl (g.2.1, 4, .inl (da 4))), ((dd 5), .inl (g.2.1, 4, .inl (da 5))), ((dd 6), .inl (g.2.1, 4, .inl (da 6))), ((dd 7), .inl (g.2.1, 4, .inl (da 7))), ((dd 8), .inl (g.2.1, 4, .inl (da 8))), ((dd 9), .inl (g.2.1, 4, .inl (da 9))), ((dd 10), .inl (g.2.1, 4, .inl (da 10))), ((dd 11), .inl (g.2.1, 4, .inl (da 11))), ((dd 12), .inl (g.2.1, 4, .inl (da 12))), ((dd 13), .inl (g.2.1, 4, .inl (da 13))), ((dd 14), .inl (g.2.1, 200, .inl (da 14))), ((dd 16), .inl (g.2.1, 72, .inl (da 16))), ((dd 17), .inl (g.2.1, 64, .inl (da 17)))] sz)) ([.ref mo] : List Value).toArray s 0 0 (va_A [(mo, cO (dd 0) th), ((dd 0), cD dd di sm), ((dd 3), .inl (g.2.1, 4, .inl (da 3))), ((dd 4), .inl (g.2.1, 4, .inl (da 4))), ((dd 5), .inl (g.2.1, 4, .inl (da 5))), ((dd 6), .inl (g.2.1, 4, .inl (da 6))), ((dd 7), .inl (g.2.1, 4, .inl (da 7))), ((dd 8), .inl (g.2.1, 4, .inl (da 8))), ((dd 9), .inl (g.2.1, 4, .inl (da 9))), ((dd 10), .inl (g.2.1, 4, .inl (da 10))), ((dd 11), .inl (g.2.1, 4, .inl (da 11))), ((dd 12), .inl (g.2.1, 4, .inl (da 12))), ((dd 13), .inl (g.2.1, 4, .inl (da 13))), ((dd 14), .inl (g.2.1, 200, .inl (da 14))), ((dd 16), .inl (g.2.1, 72, .inl (da 16))), ((dd 17), .inl (g.2.1, 64, .inl (da 17)))] sz)) 7 g (va_A [(mo, cO (dd 0) th), ((dd 0), cD dd di sm), ((dd 3), .inl (g.2.1, 4, .inl (da 3))), ((dd 4), .inl (g.2.1, 4, .inl (da 4))), ((dd 5), .inl (g.2.1, 4, .inl (da 5))), ((dd 6), .inl (g.2.1, 4, .inl (da 6))), ((dd 7), .inl (g.2.1, 4, .inl (da 7))), ((dd 8), .inl (g.2.1, 4, .inl (da 8))), ((dd 9), .inl (g.2.1, 4, .inl (da 9))), ((dd 10), .inl (g.2.1, 4, .inl (da 10))), ((dd 11), .inl (g.2.1, 4, .inl (da 11))), ((dd 12), .inl (g.2.1, 4, .inl (da 12))), ((dd 13), .inl (g.2.1, 4, .inl (da 13))), ((dd 14), .inl (g.2.1, 200, .inl (da 14))), ((dd 16), .inl (g.2.1, 72, .inl (da 16))), ((dd 17), .inl (g.2.1, 64, .inl (da 17)))] sz) [(mo, cO (dd 0) (upd th 0 0)), ((dd 0), cD dd di sm), ((dd 3), .inl (g.2.1, 4, .inl (da 3))), ((dd 4), .inl (g.2.1, 4, .inl (da 4))), ((dd 5), .inl (g.2.1, 4, .inl (da 5))), ((dd 6), .inl (g.2.1, 4, .inl (da 6))), ((dd 7), .inl (g.2.1, 4, .inl (da 7))), ((dd 8), .inl (g.2.1, 4, .inl (da 8))), ((dd 9), .inl (g.2.1, 4, .inl (da 9))), ((dd 10), .inl (g.2.1, 4, .inl (da 10))), ((dd 11), .inl (g.2.1, 4, .inl (da 11))), ((dd 12), .inl (g.2.1, 4, .inl (da 12))), ((dd 13), .inl (g.2.1, 4, .inl (da 13))), ((dd 14), .inl (g.2.1, 200, .inl (da 14))), ((dd 16), .inl (g.2.1, 72, .inl (da 16))), ((dd 17), .inl (g.2.1, 64, .inl (da 17)))] [(3, .int (nI t_2)), (1, .long (dgN (da 17) x_1 t_2)), (0, .ref mo)] [] 20 0 0) 8 (fun t_2 ht_2 iht_2  => ?_) ?_
  · skip
    refine g_iload_n B 3 0 dX6_digest_20 rfl rfl ?_
    refine g_bipush (v := 8) B dX6_digest_21 kb_8 ?_
    refine g_icmp_ge_F (tgt := 49) B dX6_digest_23 (by decide) (nI_ge ht_2 (by decide) : ¬ nI 8 ≤ nI t_2) ?_
    refine g_lload_n B 1 1 dX6_digest_26 rfl rfl ?_
    refine g_ldc2 (v := 31) B dX6_digest_27 q1320 ?_
    refine g_lmul B dX6_digest_30 ?_
    refine g_aload_n B 0 2 dX6_digest_31 rfl rfl ?_
    refine g_get (C := RX6) (T := TX6) (N := 2) B 5 0 1 (.ref (dd 0)) in_X6 rfl q1049 rfl (Nat.le_of_ble_eq_true rfl) (fun _ h9 => h9) rfl dX6_digest_32 ?_
    refine g_get (C := RX7) (T := TX7) (N := 35) B 6 1 29 (.ref (dd 17)) in_X7 rfl q966 rfl (Nat.le_of_ble_eq_true rfl) (fun _ h9 => h9) rfl dX6_digest_35 ?_
    refine g_iload_n B 3 0 dX6_digest_38 rfl rfl ?_
    refine g_iald B 15 t_2 rfl (nI_clamp (by omega)) (vp_in_nI (by omega) (by omega)) dX6_digest_39 ?_
    refine g_i2l B dX6_digest_40 ?_
    refine g_ladd B dX6_digest_41 ?_
    refine g_topl (fun x_3 ex_3 => ?_)
    refine g_lstore_n B 1 [(1, .long x_3), (3, .int (nI t_2)), (0, .ref mo)] dX6_digest_42 rfl (Nat.le_of_ble_eq_true rfl) rfl ?_
    refine g_iinc B 1 (nI (t_2 + 1)) [(3, .int (nI (t_2 + 1))), (1, .long x_3), (0, .ref mo)] dX6_digest_43 rfl (by rw [kc_1]; exact nI_1 t_2) (Nat.le_of_ble_eq_true rfl) rfl ?_
    refine g_goto (tgt := 20) B dX6_digest_46 (by decide) ?_
    subst ex_3
    refine g_lvq (lv' := [(3, .int (nI (t_2 + 1))), (1, .long (dgN (da 17) x_1 (t_2 + 1))), (0, .ref mo)]) (by simp only [dgN_s _ _ t_2, dgM_s _ _ _ t_2, dg]) ?_
    exact iht_2
  · skip
    refine g_lvq (lv' := [(3, .int 8), (1, .long (dgN (da 17) x_1 8)), (0, .ref mo)]) rfl ?_
    refine g_iload_n B 3 0 dX6_digest_20 rfl rfl ?_
    refine g_bipush (v := 8) B dX6_digest_21 kb_8 ?_
    refine g_icmp_ge_T (tgt := 49) B dX6_digest_23 (by decide) (by decide) ?_
    refine g_lload_n B 1 1 dX6_digest_49 rfl rfl ?_
    refine g_ldc2 (v := 31) B dX6_digest_50 q1320 ?_
    refine g_lmul B dX6_digest_53 ?_
    refine g_aload_n B 0 2 dX6_digest_54 rfl rfl ?_
    refine g_get (C := RX6) (T := TX6) (N := 2) B 5 0 1 (.ref (dd 0)) in_X6 rfl q1049 rfl (Nat.le_of_ble_eq_true rfl) (fun _ h9 => h9) rfl dX6_digest_55 ?_
    refine g_get (C := RX7) (T := TX7) (N := 35) B 6 1 31 (.int (di 14)) in_X7 rfl q970 rfl (Nat.le_of_ble_eq_true rfl) (fun _ h9 => h9) rfl dX6_digest_58 ?_
    refine g_i2l B dX6_digest_61 ?_
    refine g_ladd B dX6_digest_62 ?_
    refine g_ldc2 (v := 31) B dX6_digest_63 q1320 ?_
    refine g_lmul B dX6_digest_66 ?_
    refine g_aload_n B 0 2 dX6_digest_67 rfl rfl ?_
    refine g_get (C := RX6) (T := TX6) (N := 2) B 5 0 1 (.ref (dd 0)) in_X6 rfl q1049 rfl (Nat.le_of_ble_eq_true rfl) (fun _ h9 => h9) rfl dX6_digest_68 ?_
    refine g_get (C := RX7) (T := TX7) (N := 35) B 6 1 32 (.int (di 15)) in_X7 rfl q972 rfl (Nat.le_of_ble_eq_true rfl) (fun _ h9 => h9) rfl dX6_digest_71 ?_
    refine g_i2l B dX6_digest_74 ?_
    refine g_ladd B dX6_digest_75 ?_
    refine g_ldc2 (v := 31) B dX6_digest_76 q1320 ?_
    refine g_lmul B dX6_digest_79 ?_
    refine g_aload_n B 0 2 dX6_digest_80 rfl rfl ?_
    refine g_get (C := RX6) (T := TX6) (N := 2) B 5 0 1 (.ref (dd 0)) in_X6 rfl q1049 rfl (Nat.le_of_ble_eq_true rfl) (fun _ h9 => h9) rfl dX6_digest_81 ?_
    refine g_get (C := RX7) (T := TX7) (N := 35) B 6 1 33 (.int (di 16)) in_X7 rfl q974 rfl (Nat.le_of_ble_eq_true rfl) (fun _ h9 => h9) rfl dX6_digest_84 ?_
    refine g_i2l B dX6_digest_87 ?_
    refine g_ladd B dX6_digest_88 ?_
    refine g_ldc2 (v := 31) B dX6_digest_89 q1320 ?_
    refine g_lmul B dX6_digest_92 ?_
    refine g_aload_n B 0 2 dX6_digest_93 rfl rfl ?_
    refine g_get (C := RX6) (T := TX6) (N := 2) B 5 0 1 (.ref (dd 0)) in_X6 rfl q1049 rfl (Nat.le_of_ble_eq_true rfl) (fun _ h9 => h9) rfl dX6_digest_94 ?_
    refine g_cuV_i (C := RX7) (T := TX7) (N := 35) (As := []) B (m_X7_sounding l hst g dd di sm (da 3)) 6 0 rfl rfl [1, 2] [.long ((((((((dgN (da 17) x_1 8) * 31) + (Int32.toInt64 (di 14))) * 31) + (Int32.toInt64 (di 15))) * 31) + (Int32.toInt64 (di 16))) * 31)] (lw_V q1153 q1154 q1155 q39 q1156) nvX7_sounding rfl rfl rfl rfl (Nat.le_of_ble_eq_true rfl) dX6_digest_97 ⟨Nat.le_of_ble_eq_true rfl, Nat.le_of_ble_eq_true rfl⟩ ⟨Nat.le_of_ble_eq_true rfl, Nat.le_of_ble_eq_true rfl⟩ (fun r_4 ur_4 hr_4 => ?_)
    have hr_4 : r_4 = d_snd (da 3) := hr_4
    refine g_i2l B dX6_digest_100 ?_
    refine g_ladd B dX6_digest_101 ?_
    refine g_topl (fun x_5 ex_5 => ?_)
    refine g_lstore_n B 1 [(1, .long x_5), (3, .int 8), (0, .ref mo)] dX6_digest_102 rfl (Nat.le_of_ble_eq_true rfl) rfl ?_
    refine g_lload_n B 1 0 dX6_digest_103 rfl rfl ?_
    refine g_ldc2 (v := 31) B dX6_digest_104 q1320 ?_
    refine g_lmul B dX6_digest_107 ?_
    refine g_aload_n B 0 2 dX6_digest_108 rfl rfl ?_
    refine g_get (C := RX6) (T := TX6) (N := 2) B 5 0 1 (.ref (dd 0)) in_X6 rfl q1049 rfl (Nat.le_of_ble_eq_true rfl) (fun _ h9 => h9) rfl dX6_digest_109 ?_
    refine g_get (C := RX7) (T := TX7) (N := 35) B 6 1 14 (.int (di 1)) in_X7 rfl q937 rfl (Nat.le_of_ble_eq_true rfl) (fun _ h9 => h9) rfl dX6_digest_112 ?_
    refine g_i2l B dX6_digest_115 ?_
    refine g_ladd B dX6_digest_116 ?_
    refine g_ldc2 (v := 31) B dX6_digest_117 q1320 ?_
    refine g_lmul B dX6_digest_120 ?_
    refine g_aload_n B 0 2 dX6_digest_121 rfl rfl ?_
    refine g_get (C := RX6) (T := TX6) (N := 2) B 5 0 1 (.ref (dd 0)) in_X6 rfl q1049 rfl (Nat.le_of_ble_eq_true rfl) (fun _ h9 => h9) rfl dX6_digest_122 ?_
    refine g_get (C := RX7) (T := TX7) (N := 35) B 6 1 24 (.int (di 8)) in_X7 rfl q957 rfl (Nat.le_of_ble_eq_true rfl) (fun _ h9 => h9) rfl dX6_digest_125 ?_
    have j_7 : ∀ (x_8 : Int32), x_8 = mk_c (di 8) → gW p l e (gRm 1 22 0 0) s m ([.ref mo] : List Value).toArray below meth c (MQ below (va_Ql (fun (r : Int64) (_ : Unit) => r = d_dig da di) (fun u t => gE g (va_A [(mo, cO (dd 0) th), ((dd 0), cD dd di sm), ((dd 3), .inl (g.2.1, 4, .inl (da 3))), ((dd 4), .inl (g.2.1, 4, .inl (da 4))), ((dd 5), .inl (g.2.1, 4, .inl (da 5))), ((dd 6), .inl (g.2.1, 4, .inl (da 6))), ((dd 7), .inl (g.2.1, 4, .inl (da 7))), ((dd 8), .inl (g.2.1, 4, .inl (da 8))), ((dd 9), .inl (g.2.1, 4, .inl (da 9))), ((dd 10), .inl (g.2.1, 4, .inl (da 10))), ((dd 11), .inl (g.2.1, 4, .inl (da 11))), ((dd 12), .inl (g.2.1, 4, .inl (da 12))), ((dd 13), .inl (g.2.1, 4, .inl (da 13))), ((dd 14), .inl (g.2.1, 200, .inl (da 14))), ((dd 16), .inl (g.2.1, 72, .inl (da 16))), ((dd 17), .inl (g.2.1, 64, .inl (da 17)))] sz) ((fun _ : Unit => [(mo, cO (dd 0) (fun _ => 0)), ((dd 0), cD dd di sm), ((dd 3), .inl (g.2.1, 4, .inl (da 3))), ((dd 4), .inl (g.2.1, 4, .inl (da 4))), ((dd 5), .inl (g.2.1, 4, .inl (da 5))), ((dd 6), .inl (g.2.1, 4, .inl (da 6))), ((dd 7), .inl (g.2.1, 4, .inl (da 7))), ((dd 8), .inl (g.2.1, 4, .inl (da 8))), ((dd 9), .inl (g.2.1, 4, .inl (da 9))), ((dd 10), .inl (g.2.1, 4, .inl (da 10))), ((dd 11), .inl (g.2.1, 4, .inl (da 11))), ((dd 12), .inl (g.2.1, 4, .inl (da 12))), ((dd 13), .inl (g.2.1, 4, .inl (da 13))), ((dd 14), .inl (g.2.1, 200, .inl (da 14))), ((dd 16), .inl (g.2.1, 72, .inl (da 16))), ((dd 17), .inl (g.2.1, 64, .inl (da 17)))]) u) t) (va_A [(mo, cO (dd 0) th), ((dd 0), cD dd di sm), ((dd 3), .inl (g.2.1, 4, .inl (da 3))), ((dd 4), .inl (g.2.1, 4, .inl (da 4))), ((dd 5), .inl (g.2.1, 4, .inl (da 5))), ((dd 6), .inl (g.2.1, 4, .inl (da 6))), ((dd 7), .inl (g.2.1, 4, .inl (da 7))), ((dd 8), .inl (g.2.1, 4, .inl (da 8))), ((dd 9), .inl (g.2.1, 4, .inl (da 9))), ((dd 10), .inl (g.2.1, 4, .inl (da 10))), ((dd 11), .inl (g.2.1, 4, .inl (da 11))), ((dd 12), .inl (g.2.1, 4, .inl (da 12))), ((dd 13), .inl (g.2.1, 4, .inl (da 13))), ((dd 14), .inl (g.2.1, 200, .inl (da 14))), ((dd 16), .inl (g.2.1, 72, .inl (da 16))), ((dd 17), .inl (g.2.1, 64, .inl (da 17)))] sz)) ([.ref mo] : List Value).toArray s 0 0 (va_A [(mo, cO (dd 0) th), ((dd 0), cD dd di sm), ((dd 3), .inl (g.2.1, 4, .inl (da 3))), ((dd 4), .inl (g.2.1, 4, .inl (da 4))), ((dd 5), .inl (g.2.1, 4, .inl (da 5))), ((dd 6), .inl (g.2.1, 4, .inl (da 6))), ((dd 7), .inl (g.2.1, 4, .inl (da 7))), ((dd 8), .inl (g.2.1, 4, .inl (da 8))), ((dd 9), .inl (g.2.1, 4, .inl (da 9))), ((dd 10), .inl (g.2.1, 4, .inl (da 10))), ((dd 11), .inl (g.2.1, 4, .inl (da 11))), ((dd 12), .inl (g.2.1, 4, .inl (da 12))), ((dd 13), .inl (g.2.1, 4, .inl (da 13))), ((dd 14), .inl (g.2.1, 200, .inl (da 14))), ((dd 16), .inl (g.2.1, 72, .inl (da 16))), ((dd 17), .inl (g.2.1, 64, .inl (da 17)))] sz)) 7 g (va_A [(mo, cO (dd 0) th), ((dd 0), cD dd di sm), ((dd 3), .inl (g.2.1, 4, .inl (da 3))), ((dd 4), .inl (g.2.1, 4, .inl (da 4))), ((dd 5), .inl (g.2.1, 4, .inl (da 5))), ((dd 6), .inl (g.2.1, 4, .inl (da 6))), ((dd 7), .inl (g.2.1, 4, .inl (da 7))), ((dd 8), .inl (g.2.1, 4, .inl (da 8))), ((dd 9), .inl (g.2.1, 4, .inl (da 9))), ((dd 10), .inl (g.2.1, 4, .inl (da 10))), ((dd 11), .inl (g.2.1, 4, .inl (da 11))), ((dd 12), .inl (g.2.1, 4, .inl (da 12))), ((dd 13), .inl (g.2.1, 4, .inl (da 13))), ((dd 14), .inl (g.2.1, 200, .inl (da 14))), ((dd 16), .inl (g.2.1, 72, .inl (da 16))), ((dd 17), .inl (g.2.1, 64, .inl (da 17)))] sz) [(mo, cO (dd 0) (upd th 0 0)), ((dd 0), cD dd di sm), ((dd 3), .inl (g.2.1, 4, .inl (da 3))), ((dd 4), .inl (g.2.1, 4, .inl (da 4))), ((dd 5), .inl (g.2.1, 4, .inl (da 5))), ((dd 6), .inl (g.2.1, 4, .inl (da 6))), ((dd 7), .inl (g.2.1, 4, .inl (da 7))), ((dd 8), .inl (g.2.1, 4, .inl (da 8))), ((dd 9), .inl (g.2.1, 4, .inl (da 9))), ((dd 10), .inl (g.2.1, 4, .inl (da 10))), ((dd 11), .inl (g.2.1, 4, .inl (da 11))), ((dd 12), .inl (g.2.1, 4, .inl (da 12))), ((dd 13), .inl (g.2.1, 4, .inl (da 13))), ((dd 14), .inl (g.2.1, 200, .inl (da 14))), ((dd 16), .inl (g.2.1, 72, .inl (da 16))), ((dd 17), .inl (g.2.1, 64, .inl (da 17)))] [(1, .long x_5), (3, .int 8), (0, .ref mo)] [.int x_8, .long (((x_5 * 31) + (Int32.toInt64 (di 1))) * 31)] 136 0 0 := by
      intro x_8 ex_8
      refine g_i2l B dX6_digest_136 ?_
      refine g_ladd B dX6_digest_137 ?_
      refine g_ldc2 (v := 31) B dX6_digest_138 q1320 ?_
      refine g_lmul B dX6_digest_141 ?_
      refine g_aload_n B 0 2 dX6_digest_142 rfl rfl ?_
      refine g_cuV_i (C := RX6) (T := TX6) (N := 2) (As := []) B (m_X6_stepNow l hst g mo (upd th 0 0) dd di sm) 5 0 rfl rfl [0, 1] [.long (((((x_5 * 31) + (Int32.toInt64 (di 1))) * 31) + (Int32.toInt64 x_8)) * 31)] (lw_V q1180 q1182 qs18 q38 q1183) nvX6_stepNow rfl rfl rfl rfl (Nat.le_of_ble_eq_true rfl) dX6_digest_143 ⟨Nat.le_of_ble_eq_true rfl, Nat.le_of_ble_eq_true rfl⟩ ⟨Nat.le_of_ble_eq_true rfl, Nat.le_of_ble_eq_true rfl⟩ (fun r_9 ur_9 hr_9 => ?_)
      have hr_9 : r_9 = d_step di := hr_9
      refine g_i2l B dX6_digest_146 ?_
      refine g_ladd B dX6_digest_147 ?_
      refine g_ldc2 (v := 31) B dX6_digest_148 q1320 ?_
      refine g_lmul B dX6_digest_151 ?_
      refine g_aload_n B 0 2 dX6_digest_152 rfl rfl ?_
      refine g_get (C := RX6) (T := TX6) (N := 2) B 5 0 1 (.ref (dd 0)) in_X6 rfl q1049 rfl (Nat.le_of_ble_eq_true rfl) (fun _ h9 => h9) rfl dX6_digest_153 ?_
      refine g_cuV_i (C := RX7) (T := TX7) (N := 35) (As := []) B (m_X7_nextVoice l hst g dd di sm (da 3) (da 4) (da 13)) 6 0 rfl rfl [1, 2, 3, 12] [.long (((((((x_5 * 31) + (Int32.toInt64 (di 1))) * 31) + (Int32.toInt64 x_8)) * 31) + (Int32.toInt64 r_9)) * 31)] (lw_V q1314 q1134 q1135 q39 q1136) nvX7_nextVoice rfl rfl rfl rfl (Nat.le_of_ble_eq_true rfl) dX6_digest_156 ⟨Nat.le_of_ble_eq_true rfl, Nat.le_of_ble_eq_true rfl⟩ ⟨Nat.le_of_ble_eq_true rfl, Nat.le_of_ble_eq_true rfl⟩ (fun r_10 ur_10 hr_10 => ?_)
      obtain rfl : nI ur_10 = r_10 := hr_10.1.symm
      have hur_10 := hr_10.2
      have hlr_10 : ur_10 < 4 := by rw [hur_10]; exact d_nxn_lt _ _ _
      refine g_i2l B dX6_digest_159 ?_
      refine g_ladd B dX6_digest_160 ?_
      refine g_topl (fun x_11 ex_11 => ?_)
      refine g_lstore_n B 1 [(1, .long x_11), (3, .int 8), (0, .ref mo)] dX6_digest_161 rfl (Nat.le_of_ble_eq_true rfl) rfl ?_
      refine g_iconst (v := 0) B dX6_digest_162 kc_0 ?_
      refine g_istore_n B 3 [(3, .int 0), (1, .long x_11), (0, .ref mo)] dX6_digest_163 rfl (Nat.le_of_ble_eq_true rfl) rfl ?_
      refine g_lvq (lv' := [(3, .int (nI 0)), (1, .long (dgM (fun v w => d_tv da v (nI w)) 10 x_11 0)), (0, .ref mo)]) (by simp only [nI_0, dgN_0, dgM_0]) ?_
      refine g_loop (P := fun t_12 => gW p l e (gRm 1 22 0 0) s m ([.ref mo] : List Value).toArray below meth c (MQ below (va_Ql (fun (r : Int64) (_ : Unit) => r = d_dig da di) (fun u t => gE g (va_A [(mo, cO (dd 0) th), ((dd 0), cD dd di sm), ((dd 3), .inl (g.2.1, 4, .inl (da 3))), ((dd 4), .inl (g.2.1, 4, .inl (da 4))), ((dd 5), .inl (g.2.1, 4, .inl (da 5))), ((dd 6), .inl (g.2.1, 4, .inl (da 6))), ((dd 7), .inl (g.2.1, 4, .inl (da 7))), ((dd 8), .inl (g.2.1, 4, .inl (da 8))), ((dd 9), .inl (g.2.1, 4, .inl (da 9))), ((dd 10), .inl (g.2.1, 4, .inl (da 10))), ((dd 11), .inl (g.2.1, 4, .inl (da 11))), ((dd 12), .inl (g.2.1, 4, .inl (da 12))), ((dd 13), .inl (g.2.1, 4, .inl (da 13))), ((dd 14), .inl (g.2.1, 200, .inl (da 14))), ((dd 16), .inl (g.2.1, 72, .inl (da 16))), ((dd 17), .inl (g.2.1, 64, .inl (da 17)))] sz) ((fun _ : Unit => [(mo, cO (dd 0) (fun _ => 0)), ((dd 0), cD dd di sm), ((dd 3), .inl (g.2.1, 4, .inl (da 3))), ((dd 4), .inl (g.2.1, 4, .inl (da 4))), ((dd 5), .inl (g.2.1, 4, .inl (da 5))), ((dd 6), .inl (g.2.1, 4, .inl (da 6))), ((dd 7), .inl (g.2.1, 4, .inl (da 7))), ((dd 8), .inl (g.2.1, 4, .inl (da 8))), ((dd 9), .inl (g.2.1, 4, .inl (da 9))), ((dd 10), .inl (g.2.1, 4, .inl (da 10))), ((dd 11), .inl (g.2.1, 4, .inl (da 11))), ((dd 12), .inl (g.2.1, 4, .inl (da 12))), ((dd 13), .inl (g.2.1, 4, .inl (da 13))), ((dd 14), .inl (g.2.1, 200, .inl (da 14))), ((dd 16), .inl (g.2.1, 72, .inl (da 16))), ((dd 17), .inl (g.2.1, 64, .inl (da 17)))]) u) t) (va_A [(mo, cO (dd 0) th), ((dd 0), cD dd di sm), ((dd 3), .inl (g.2.1, 4, .inl (da 3))), ((dd 4), .inl (g.2.1, 4, .inl (da 4))), ((dd 5), .inl (g.2.1, 4, .inl (da 5))), ((dd 6), .inl (g.2.1, 4, .inl (da 6))), ((dd 7), .inl (g.2.1, 4, .inl (da 7))), ((dd 8), .inl (g.2.1, 4, .inl (da 8))), ((dd 9), .inl (g.2.1, 4, .inl (da 9))), ((dd 10), .inl (g.2.1, 4, .inl (da 10))), ((dd 11), .inl (g.2.1, 4, .inl (da 11))), ((dd 12), .inl (g.2.1, 4, .inl (da 12))), ((dd 13), .inl (g.2.1, 4, .inl (da 13))), ((dd 14), .inl (g.2.1, 200, .inl (da 14))), ((dd 16), .inl (g.2.1, 72, .inl (da 16))), ((dd 17), .inl (g.2.1, 64, .inl (da 17)))] sz)) ([.ref mo] : List Value).toArray s 0 0 (va_A [(mo, cO (dd 0) th), ((dd 0), cD dd di sm), ((dd 3), .inl (g.2.1, 4, .inl (da 3))), ((dd 4), .inl (g.2.1, 4, .inl (da 4))), ((dd 5), .inl (g.2.1, 4, .inl (da 5))), ((dd 6), .inl (g.2.1, 4, .inl (da 6))), ((dd 7), .inl (g.2.1, 4, .inl (da 7))), ((dd 8), .inl (g.2.1, 4, .inl (da 8))), ((dd 9), .inl (g.2.1, 4, .inl (da 9))), ((dd 10), .inl (g.2.1, 4, .inl (da 10))), ((dd 11), .inl (g.2.1, 4, .inl (da 11))), ((dd 12), .inl (g.2.1, 4, .inl (da 12))), ((dd 13), .inl (g.2.1, 4, .inl (da 13))), ((dd 14), .inl (g.2.1, 200, .inl (da 14))), ((dd 16), .inl (g.2.1, 72, .inl (da 16))), ((dd 17), .inl (g.2.1, 64, .inl (da 17)))] sz)) 7 g (va_A [(mo, cO (dd 0) th), ((dd 0), cD dd di sm), ((dd 3), .inl (g.2.1, 4, .inl (da 3))), ((dd 4), .inl (g.2.1, 4, .inl (da 4))), ((dd 5), .inl (g.2.1, 4, .inl (da 5))), ((dd 6), .inl (g.2.1, 4, .inl (da 6))), ((dd 7), .inl (g.2.1, 4, .inl (da 7))), ((dd 8), .inl (g.2.1, 4, .inl (da 8))), ((dd 9), .inl (g.2.1, 4, .inl (da 9))), ((dd 10), .inl (g.2.1, 4, .inl (da 10))), ((dd 11), .inl (g.2.1, 4, .inl (da 11))), ((dd 12), .inl (g.2.1, 4, .inl (da 12))), ((dd 13), .inl (g.2.1, 4, .inl (da 13))), ((dd 14), .inl (g.2.1, 200, .inl (da 14))), ((dd 16), .inl (g.2.1, 72, .inl (da 16))), ((dd 17), .inl (g.2.1, 64, .inl (da 17)))] sz) [(mo, cO (dd 0) (upd th 0 0)), ((dd 0), cD dd di sm), ((dd 3), .inl (g.2.1, 4, .inl (da 3))), ((dd 4), .inl (g.2.1, 4, .inl (da 4))), ((dd 5), .inl (g.2.1, 4, .inl (da 5))), ((dd 6), .inl (g.2.1, 4, .inl (da 6))), ((dd 7), .inl (g.2.1, 4, .inl (da 7))), ((dd 8), .inl (g.2.1, 4, .inl (da 8))), ((dd 9), .inl (g.2.1, 4, .inl (da 9))), ((dd 10), .inl (g.2.1, 4, .inl (da 10))), ((dd 11), .inl (g.2.1, 4, .inl (da 11))), ((dd 12), .inl (g.2.1, 4, .inl (da 12))), ((dd 13), .inl (g.2.1, 4, .inl (da 13))), ((dd 14), .inl (g.2.1, 200, .inl (da 14))), ((dd 16), .inl (g.2.1, 72, .inl (da 16))), ((dd 17), .inl (g.2.1, 64, .inl (da 17)))] [(3, .int (nI t_12)), (1, .long (dgM (fun v w => d_tv da v (nI w)) 10 x_11 t_12)), (0, .ref mo)] [] 164 0 0) 4 (fun t_12 ht_12 iht_12  => ?_) ?_
      · skip
        refine g_iload_n B 3 0 dX6_digest_164 rfl rfl ?_
        refine g_iconst (v := 4) B dX6_digest_165 kc_4 ?_
        refine g_icmp_ge_F (tgt := 206) B dX6_digest_166 (by decide) (nI_ge ht_12 (by decide) : ¬ nI 4 ≤ nI t_12) ?_
        refine g_iconst (v := 0) B dX6_digest_169 kc_0 ?_
        refine g_istore B [(4, .int 0), (3, .int (nI t_12)), (1, .long (dgM (fun v w => d_tv da v (nI w)) 10 x_11 t_12)), (0, .ref mo)] dX6_digest_170 (Nat.le_of_ble_eq_true rfl) rfl ?_
        refine g_lvq (lv' := [(4, .int (nI 0)), (3, .int (nI t_12)), (1, .long (dgN (fun w => d_tv da t_12 (nI w)) (dgM (fun v w => d_tv da v (nI w)) 10 x_11 t_12) 0)), (0, .ref mo)]) (by simp only [nI_0, dgN_0, dgM_0]) ?_
        refine g_loop (P := fun t_13 => gW p l e (gRm 1 22 0 0) s m ([.ref mo] : List Value).toArray below meth c (MQ below (va_Ql (fun (r : Int64) (_ : Unit) => r = d_dig da di) (fun u t => gE g (va_A [(mo, cO (dd 0) th), ((dd 0), cD dd di sm), ((dd 3), .inl (g.2.1, 4, .inl (da 3))), ((dd 4), .inl (g.2.1, 4, .inl (da 4))), ((dd 5), .inl (g.2.1, 4, .inl (da 5))), ((dd 6), .inl (g.2.1, 4, .inl (da 6))), ((dd 7), .inl (g.2.1, 4, .inl (da 7))), ((dd 8), .inl (g.2.1, 4, .inl (da 8))), ((dd 9), .inl (g.2.1, 4, .inl (da 9))), ((dd 10), .inl (g.2.1, 4, .inl (da 10))), ((dd 11), .inl (g.2.1, 4, .inl (da 11))), ((dd 12), .inl (g.2.1, 4, .inl (da 12))), ((dd 13), .inl (g.2.1, 4, .inl (da 13))), ((dd 14), .inl (g.2.1, 200, .inl (da 14))), ((dd 16), .inl (g.2.1, 72, .inl (da 16))), ((dd 17), .inl (g.2.1, 64, .inl (da 17)))] sz) ((fun _ : Unit => [(mo, cO (dd 0) (fun _ => 0)), ((dd 0), cD dd di sm), ((dd 3), .inl (g.2.1, 4, .inl (da 3))), ((dd 4), .inl (g.2.1, 4, .inl (da 4))), ((dd 5), .inl (g.2.1, 4, .inl (da 5))), ((dd 6), .inl (g.2.1, 4, .inl (da 6))), ((dd 7), .inl (g.2.1, 4, .inl (da 7))), ((dd 8), .inl (g.2.1, 4, .inl (da 8))), ((dd 9), .inl (g.2.1, 4, .inl (da 9))), ((dd 10), .inl (g.2.1, 4, .inl (da 10))), ((dd 11), .inl (g.2.1, 4, .inl (da 11))), ((dd 12), .inl (g.2.1, 4, .inl (da 12))), ((dd 13), .inl (g.2.1, 4, .inl (da 13))), ((dd 14), .inl (g.2.1, 200, .inl (da 14))), ((dd 16), .inl (g.2.1, 72, .inl (da 16))), ((dd 17), .inl (g.2.1, 64, .inl (da 17)))]) u) t) (va_A [(mo, cO (dd 0) th), ((dd 0), cD dd di sm), ((dd 3), .inl (g.2.1, 4, .inl (da 3))), ((dd 4), .inl (g.2.1, 4, .inl (da 4))), ((dd 5), .inl (g.2.1, 4, .inl (da 5))), ((dd 6), .inl (g.2.1, 4, .inl (da 6))), ((dd 7), .inl (g.2.1, 4, .inl (da 7))), ((dd 8), .inl (g.2.1, 4, .inl (da 8))), ((dd 9), .inl (g.2.1, 4, .inl (da 9))), ((dd 10), .inl (g.2.1, 4, .inl (da 10))), ((dd 11), .inl (g.2.1, 4, .inl (da 11))), ((dd 12), .inl (g.2.1, 4, .inl (da 12))), ((dd 13), .inl (g.2.1, 4, .inl (da 13))), ((dd 14), .inl (g.2.1, 200, .inl (da 14))), ((dd 16), .inl (g.2.1, 72, .inl (da 16))), ((dd 17), .inl (g.2.1, 64, .inl (da 17)))] sz)) ([.ref mo] : List Value).toArray s 0 0 (va_A [(mo, cO (dd 0) th), ((dd 0), cD dd di sm), ((dd 3), .inl (g.2.1, 4, .inl (da 3))), ((dd 4), .inl (g.2.1, 4, .inl (da 4))), ((dd 5), .inl (g.2.1, 4, .inl (da 5))), ((dd 6), .inl (g.2.1, 4, .inl (da 6))), ((dd 7), .inl (g.2.1, 4, .inl (da 7))), ((dd 8), .inl (g.2.1, 4, .inl (da 8))), ((dd 9), .inl (g.2.1, 4, .inl (da 9))), ((dd 10), .inl (g.2.1, 4, .inl (da 10))), ((dd 11), .inl (g.2.1, 4, .inl (da 11))), ((dd 12), .inl (g.2.1, 4, .inl (da 12))), ((dd 13), .inl (g.2.1, 4, .inl (da 13))), ((dd 14), .inl (g.2.1, 200, .inl (da 14))), ((dd 16), .inl (g.2.1, 72, .inl (da 16))), ((dd 17), .inl (g.2.1, 64, .inl (da 17)))] sz)) 7 g (va_A [(mo, cO (dd 0) th), ((dd 0), cD dd di sm), ((dd 3), .inl (g.2.1, 4, .inl (da 3))), ((dd 4), .inl (g.2.1, 4, .inl (da 4))), ((dd 5), .inl (g.2.1, 4, .inl (da 5))), ((dd 6), .inl (g.2.1, 4, .inl (da 6))), ((dd 7), .inl (g.2.1, 4, .inl (da 7))), ((dd 8), .inl (g.2.1, 4, .inl (da 8))), ((dd 9), .inl (g.2.1, 4, .inl (da 9))), ((dd 10), .inl (g.2.1, 4, .inl (da 10))), ((dd 11), .inl (g.2.1, 4, .inl (da 11))), ((dd 12), .inl (g.2.1, 4, .inl (da 12))), ((dd 13), .inl (g.2.1, 4, .inl (da 13))), ((dd 14), .inl (g.2.1, 200, .inl (da 14))), ((dd 16), .inl (g.2.1, 72, .inl (da 16))), ((dd 17), .inl (g.2.1, 64, .inl (da 17)))] sz) [(mo, cO (dd 0) (upd th 0 0)), ((dd 0), cD dd di sm), ((dd 3), .inl (g.2.1, 4, .inl (da 3))), ((dd 4), .inl (g.2.1, 4, .inl (da 4))), ((dd 5), .inl (g.2.1, 4, .inl (da 5))), ((dd 6), .inl (g.2.1, 4, .inl (da 6))), ((dd 7), .inl (g.2.1, 4, .inl (da 7))), ((dd 8), .inl (g.2.1, 4, .inl (da 8))), ((dd 9), .inl (g.2.1, 4, .inl (da 9))), ((dd 10), .inl (g.2.1, 4, .inl (da 10))), ((dd 11), .inl (g.2.1, 4, .inl (da 11))), ((dd 12), .inl (g.2.1, 4, .inl (da 12))), ((dd 13), .inl (g.2.1, 4, .inl (da 13))), ((dd 14), .inl (g.2.1, 200, .inl (da 14))), ((dd 16), .inl (g.2.1, 72, .inl (da 16))), ((dd 17), .inl (g.2.1, 64, .inl (da 17)))] [(4, .int (nI t_13)), (3, .int (nI t_12)), (1, .long (dgN (fun w => d_tv da t_12 (nI w)) (dgM (fun v w => d_tv da v (nI w)) 10 x_11 t_12) t_13)), (0, .ref mo)] [] 172 0 0) 10 (fun t_13 ht_13 iht_13  => ?_) ?_
        · skip
          refine g_iload B 0 dX6_digest_172 rfl ?_
          refine g_bipush (v := 10) B dX6_digest_174 kb_10 ?_
          refine g_icmp_ge_F (tgt := 200) B dX6_digest_176 (by decide) (nI_ge ht_13 (by decide) : ¬ nI 10 ≤ nI t_13) ?_
          refine g_lload_n B 1 2 dX6_digest_179 rfl rfl ?_
          refine g_ldc2 (v := 31) B dX6_digest_180 q1320 ?_
          refine g_lmul B dX6_digest_183 ?_
          refine g_aload_n B 0 3 dX6_digest_184 rfl rfl ?_
          refine g_iload_n B 3 1 dX6_digest_185 rfl rfl ?_
          refine g_iload B 0 dX6_digest_186 rfl ?_
          refine g_cuV_i (C := RX6) (T := TX6) (N := 2) (As := [.int (nI t_12), .int (nI t_13)]) B (m_X6_voiceNow l hst g mo (upd th 0 0) dd di sm da t_12 (nI t_13) ht_12) 5 0 rfl rfl [0, 1, 2, 3, 4, 5, 6, 7, 8, 9, 10, 11] [.long ((dgN (fun w => d_tv da t_12 (nI w)) (dgM (fun v w => d_tv da v (nI w)) 10 x_11 t_12) t_13) * 31)] (lw_V q1264 q1266 qs24 q38 q1267) nvX6_voiceNow rfl rfl rfl rfl (Nat.le_of_ble_eq_true rfl) dX6_digest_188 ⟨Nat.le_of_ble_eq_true rfl, Nat.le_of_ble_eq_true rfl⟩ ⟨Nat.le_of_ble_eq_true rfl, Nat.le_of_ble_eq_true rfl⟩ (fun r_14 ur_14 hr_14 => ?_)
          have hr_14 : r_14 = d_tv da t_12 (nI t_13) := hr_14
          refine g_i2l B dX6_digest_191 ?_
          refine g_ladd B dX6_digest_192 ?_
          refine g_topl (fun x_15 ex_15 => ?_)
          refine g_lstore_n B 1 [(1, .long x_15), (4, .int (nI t_13)), (3, .int (nI t_12)), (0, .ref mo)] dX6_digest_193 rfl (Nat.le_of_ble_eq_true rfl) rfl ?_
          refine g_iinc B 1 (nI (t_13 + 1)) [(4, .int (nI (t_13 + 1))), (1, .long x_15), (3, .int (nI t_12)), (0, .ref mo)] dX6_digest_194 rfl (by rw [kc_1]; exact nI_1 t_13) (Nat.le_of_ble_eq_true rfl) rfl ?_
          refine g_goto (tgt := 172) B dX6_digest_197 (by decide) ?_
          subst hr_14
          subst ex_15
          refine g_lv (lv' := [(4, .int (nI (t_13 + 1))), (3, .int (nI t_12)), (1, .long (((dgN (fun w => d_tv da t_12 (nI w)) (dgM (fun v w => d_tv da v (nI w)) 10 x_11 t_12) t_13) * 31) + (Int32.toInt64 (d_tv da t_12 (nI t_13))))), (0, .ref mo)]) [0, 2, 1, 3] rfl ?_
          refine g_lvq (lv' := [(4, .int (nI (t_13 + 1))), (3, .int (nI t_12)), (1, .long (dgN (fun w => d_tv da t_12 (nI w)) (dgM (fun v w => d_tv da v (nI w)) 10 x_11 t_12) (t_13 + 1))), (0, .ref mo)]) (by simp only [dgN_s _ _ t_13, dgM_s _ _ _ t_13, dg]) ?_
          exact iht_13
        · skip
          refine g_lvq (lv' := [(4, .int 10), (3, .int (nI t_12)), (1, .long (dgN (fun w => d_tv da t_12 (nI w)) (dgM (fun v w => d_tv da v (nI w)) 10 x_11 t_12) 10)), (0, .ref mo)]) rfl ?_
          refine g_iload B 0 dX6_digest_172 rfl ?_
          refine g_bipush (v := 10) B dX6_digest_174 kb_10 ?_
          refine g_icmp_ge_T (tgt := 200) B dX6_digest_176 (by decide) (by decide) ?_
          refine g_iinc B 1 (nI (t_12 + 1)) [(3, .int (nI (t_12 + 1))), (4, .int 10), (1, .long (dgN (fun w => d_tv da t_12 (nI w)) (dgM (fun v w => d_tv da v (nI w)) 10 x_11 t_12) 10)), (0, .ref mo)] dX6_digest_200 rfl (by rw [kc_1]; exact nI_1 t_12) (Nat.le_of_ble_eq_true rfl) rfl ?_
          refine g_goto (tgt := 164) B dX6_digest_203 (by decide) ?_
          refine g_lv (lv' := [(3, .int (nI (t_12 + 1))), (1, .long (dgN (fun w => d_tv da t_12 (nI w)) (dgM (fun v w => d_tv da v (nI w)) 10 x_11 t_12) 10)), (0, .ref mo)]) [0, 2, 3] rfl ?_
          refine g_lvq (lv' := [(3, .int (nI (t_12 + 1))), (1, .long (dgM (fun v w => d_tv da v (nI w)) 10 x_11 (t_12 + 1))), (0, .ref mo)]) (by simp only [dgN_s _ _ t_12, dgM_s _ _ _ t_12, dg]) ?_
          exact iht_12
      · skip
        refine g_lvq (lv' := [(3, .int 4), (1, .long (dgM (fun v w => d_tv da v (nI w)) 10 x_11 4)), (0, .ref mo)]) rfl ?_
        refine g_iload_n B 3 0 dX6_digest_164 rfl rfl ?_
        refine g_iconst (v := 4) B dX6_digest_165 kc_4 ?_
        refine g_icmp_ge_T (tgt := 206) B dX6_digest_166 (by decide) (by decide) ?_
        refine g_aload_n B 0 2 dX6_digest_206 rfl rfl ?_
        refine g_get (C := RX6) (T := TX6) (N := 2) B 5 0 1 (.ref (dd 0)) in_X6 rfl q1049 rfl (Nat.le_of_ble_eq_true rfl) (fun _ h9 => h9) rfl dX6_digest_207 ?_
        refine g_get (C := RX7) (T := TX7) (N := 35) B 6 1 21 (.ref (dd 16)) in_X7 rfl q951 rfl (Nat.le_of_ble_eq_true rfl) (fun _ h9 => h9) rfl dX6_digest_210 ?_
        refine g_astore_n B 3 [(3, .ref (dd 16)), (1, .long (dgM (fun v w => d_tv da v (nI w)) 10 x_11 4)), (0, .ref mo)] dX6_digest_213 rfl (Nat.le_of_ble_eq_true rfl) rfl ?_
        refine g_aload_n B 3 0 dX6_digest_214 rfl rfl ?_
        refine g_alen B 14 72 rfl (by decide) dX6_digest_215 ?_
        refine g_istore B [(4, .int 72), (3, .ref (dd 16)), (1, .long (dgM (fun v w => d_tv da v (nI w)) 10 x_11 4)), (0, .ref mo)] dX6_digest_216 (Nat.le_of_ble_eq_true rfl) rfl ?_
        refine g_iconst (v := 0) B dX6_digest_218 kc_0 ?_
        refine g_istore B [(5, .int 0), (4, .int 72), (3, .ref (dd 16)), (1, .long (dgM (fun v w => d_tv da v (nI w)) 10 x_11 4)), (0, .ref mo)] dX6_digest_219 (Nat.le_of_ble_eq_true rfl) rfl ?_
        refine g_lvq (lv' := [(5, .int (nI 0)), (4, .int 72), (3, .ref (dd 16)), (1, .long (dgN (da 16) (dgM (fun v w => d_tv da v (nI w)) 10 x_11 4) 0)), (0, .ref mo)]) (by simp only [nI_0, dgN_0, dgM_0]) ?_
        refine g_loop (P := fun t_16 => gW p l e (gRm 1 22 0 0) s m ([.ref mo] : List Value).toArray below meth c (MQ below (va_Ql (fun (r : Int64) (_ : Unit) => r = d_dig da di) (fun u t => gE g (va_A [(mo, cO (dd 0) th), ((dd 0), cD dd di sm), ((dd 3), .inl (g.2.1, 4, .inl (da 3))), ((dd 4), .inl (g.2.1, 4, .inl (da 4))), ((dd 5), .inl (g.2.1, 4, .inl (da 5))), ((dd 6), .inl (g.2.1, 4, .inl (da 6))), ((dd 7), .inl (g.2.1, 4, .inl (da 7))), ((dd 8), .inl (g.2.1, 4, .inl (da 8))), ((dd 9), .inl (g.2.1, 4, .inl (da 9))), ((dd 10), .inl (g.2.1, 4, .inl (da 10))), ((dd 11), .inl (g.2.1, 4, .inl (da 11))), ((dd 12), .inl (g.2.1, 4, .inl (da 12))), ((dd 13), .inl (g.2.1, 4, .inl (da 13))), ((dd 14), .inl (g.2.1, 200, .inl (da 14))), ((dd 16), .inl (g.2.1, 72, .inl (da 16))), ((dd 17), .inl (g.2.1, 64, .inl (da 17)))] sz) ((fun _ : Unit => [(mo, cO (dd 0) (fun _ => 0)), ((dd 0), cD dd di sm), ((dd 3), .inl (g.2.1, 4, .inl (da 3))), ((dd 4), .inl (g.2.1, 4, .inl (da 4))), ((dd 5), .inl (g.2.1, 4, .inl (da 5))), ((dd 6), .inl (g.2.1, 4, .inl (da 6))), ((dd 7), .inl (g.2.1, 4, .inl (da 7))), ((dd 8), .inl (g.2.1, 4, .inl (da 8))), ((dd 9), .inl (g.2.1, 4, .inl (da 9))), ((dd 10), .inl (g.2.1, 4, .inl (da 10))), ((dd 11), .inl (g.2.1, 4, .inl (da 11))), ((dd 12), .inl (g.2.1, 4, .inl (da 12))), ((dd 13), .inl (g.2.1, 4, .inl (da 13))), ((dd 14), .inl (g.2.1, 200, .inl (da 14))), ((dd 16), .inl (g.2.1, 72, .inl (da 16))), ((dd 17), .inl (g.2.1, 64, .inl (da 17)))]) u) t) (va_A [(mo, cO (dd 0) th), ((dd 0), cD dd di sm), ((dd 3), .inl (g.2.1, 4, .inl (da 3))), ((dd 4), .inl (g.2.1, 4, .inl (da 4))), ((dd 5), .inl (g.2.1, 4, .inl (da 5))), ((dd 6), .inl (g.2.1, 4, .inl (da 6))), ((dd 7), .inl (g.2.1, 4, .inl (da 7))), ((dd 8), .inl (g.2.1, 4, .inl (da 8))), ((dd 9), .inl (g.2.1, 4, .inl (da 9))), ((dd 10), .inl (g.2.1, 4, .inl (da 10))), ((dd 11), .inl (g.2.1, 4, .inl (da 11))), ((dd 12), .inl (g.2.1, 4, .inl (da 12))), ((dd 13), .inl (g.2.1, 4, .inl (da 13))), ((dd 14), .inl (g.2.1, 200, .inl (da 14))), ((dd 16), .inl (g.2.1, 72, .inl (da 16))), ((dd 17), .inl (g.2.1, 64, .inl (da 17)))] sz)) ([.ref mo] : List Value).toArray s 0 0 (va_A [(mo, cO (dd 0) th), ((dd 0), cD dd di sm), ((dd 3), .inl (g.2.1, 4, .inl (da 3))), ((dd 4), .inl (g.2.1, 4, .inl (da 4))), ((dd 5), .inl (g.2.1, 4, .inl (da 5))), ((dd 6), .inl (g.2.1, 4, .inl (da 6))), ((dd 7), .inl (g.2.1, 4, .inl (da 7))), ((dd 8), .inl (g.2.1, 4, .inl (da 8))), ((dd 9), .inl (g.2.1, 4, .inl (da 9))), ((dd 10), .inl (g.2.1, 4, .inl (da 10))), ((dd 11), .inl (g.2.1, 4, .inl (da 11))), ((dd 12), .inl (g.2.1, 4, .inl (da 12))), ((dd 13), .inl (g.2.1, 4, .inl (da 13))), ((dd 14), .inl (g.2.1, 200, .inl (da 14))), ((dd 16), .inl (g.2.1, 72, .inl (da 16))), ((dd 17), .inl (g.2.1, 64, .inl (da 17)))] sz)) 7 g (va_A [(mo, cO (dd 0) th), ((dd 0), cD dd di sm), ((dd 3), .inl (g.2.1, 4, .inl (da 3))), ((dd 4), .inl (g.2.1, 4, .inl (da 4))), ((dd 5), .inl (g.2.1, 4, .inl (da 5))), ((dd 6), .inl (g.2.1, 4, .inl (da 6))), ((dd 7), .inl (g.2.1, 4, .inl (da 7))), ((dd 8), .inl (g.2.1, 4, .inl (da 8))), ((dd 9), .inl (g.2.1, 4, .inl (da 9))), ((dd 10), .inl (g.2.1, 4, .inl (da 10))), ((dd 11), .inl (g.2.1, 4, .inl (da 11))), ((dd 12), .inl (g.2.1, 4, .inl (da 12))), ((dd 13), .inl (g.2.1, 4, .inl (da 13))), ((dd 14), .inl (g.2.1, 200, .inl (da 14))), ((dd 16), .inl (g.2.1, 72, .inl (da 16))), ((dd 17), .inl (g.2.1, 64, .inl (da 17)))] sz) [(mo, cO (dd 0) (upd th 0 0)), ((dd 0), cD dd di sm), ((dd 3), .inl (g.2.1, 4, .inl (da 3))), ((dd 4), .inl (g.2.1, 4, .inl (da 4))), ((dd 5), .inl (g.2.1, 4, .inl (da 5))), ((dd 6), .inl (g.2.1, 4, .inl (da 6))), ((dd 7), .inl (g.2.1, 4, .inl (da 7))), ((dd 8), .inl (g.2.1, 4, .inl (da 8))), ((dd 9), .inl (g.2.1, 4, .inl (da 9))), ((dd 10), .inl (g.2.1, 4, .inl (da 10))), ((dd 11), .inl (g.2.1, 4, .inl (da 11))), ((dd 12), .inl (g.2.1, 4, .inl (da 12))), ((dd 13), .inl (g.2.1, 4, .inl (da 13))), ((dd 14), .inl (g.2.1, 200, .inl (da 14))), ((dd 16), .inl (g.2.1, 72, .inl (da 16))), ((dd 17), .inl (g.2.1, 64, .inl (da 17)))] [(5, .int (nI t_16)), (4, .int 72), (3, .ref (dd 16)), (1, .long (dgN (da 16) (dgM (fun v w => d_tv da v (nI w)) 10 x_11 4) t_16)), (0, .ref mo)] [] 221 0 0) 72 (fun t_16 ht_16 iht_16  => ?_) ?_
        · skip
          refine g_iload B 0 dX6_digest_221 rfl ?_
          refine g_iload B 1 dX6_digest_223 rfl ?_
          refine g_icmp_ge_F (tgt := 250) B dX6_digest_225 (by decide) (nI_ge ht_16 (by decide) : ¬ nI 72 ≤ nI t_16) ?_
          refine g_aload_n B 3 2 dX6_digest_228 rfl rfl ?_
          refine g_iload B 0 dX6_digest_229 rfl ?_
          refine g_iald B 14 t_16 rfl (nI_clamp (by omega)) (vp_in_nI (by omega) (by omega)) dX6_digest_231 ?_
          refine g_istore B [(6, .int ((da 16) t_16)), (5, .int (nI t_16)), (4, .int 72), (3, .ref (dd 16)), (1, .long (dgN (da 16) (dgM (fun v w => d_tv da v (nI w)) 10 x_11 4) t_16)), (0, .ref mo)] dX6_digest_232 (Nat.le_of_ble_eq_true rfl) rfl ?_
          refine g_lload_n B 1 4 dX6_digest_234 rfl rfl ?_
          refine g_ldc2 (v := 31) B dX6_digest_235 q1320 ?_
          refine g_lmul B dX6_digest_238 ?_
          refine g_iload B 0 dX6_digest_239 rfl ?_
          refine g_i2l B dX6_digest_241 ?_
          refine g_ladd B dX6_digest_242 ?_
          refine g_topl (fun x_17 ex_17 => ?_)
          refine g_lstore_n B 1 [(1, .long x_17), (6, .int ((da 16) t_16)), (5, .int (nI t_16)), (4, .int 72), (3, .ref (dd 16)), (0, .ref mo)] dX6_digest_243 rfl (Nat.le_of_ble_eq_true rfl) rfl ?_
          refine g_iinc B 2 (nI (t_16 + 1)) [(5, .int (nI (t_16 + 1))), (1, .long x_17), (6, .int ((da 16) t_16)), (4, .int 72), (3, .ref (dd 16)), (0, .ref mo)] dX6_digest_244 rfl (by rw [kc_1]; exact nI_1 t_16) (Nat.le_of_ble_eq_true rfl) rfl ?_
          refine g_goto (tgt := 221) B dX6_digest_247 (by decide) ?_
          subst ex_17
          refine g_lv (lv' := [(5, .int (nI (t_16 + 1))), (4, .int 72), (3, .ref (dd 16)), (1, .long (((dgN (da 16) (dgM (fun v w => d_tv da v (nI w)) 10 x_11 4) t_16) * 31) + (Int32.toInt64 ((da 16) t_16)))), (0, .ref mo)]) [0, 3, 4, 1, 5] rfl ?_
          refine g_lvq (lv' := [(5, .int (nI (t_16 + 1))), (4, .int 72), (3, .ref (dd 16)), (1, .long (dgN (da 16) (dgM (fun v w => d_tv da v (nI w)) 10 x_11 4) (t_16 + 1))), (0, .ref mo)]) (by simp only [dgN_s _ _ t_16, dgM_s _ _ _ t_16, dg]) ?_
          exact iht_16
        · skip
          refine g_lvq (lv' := [(5, .int 72), (4, .int 72), (3, .ref (dd 16)), (1, .long (dgN (da 16) (dgM (fun v w => d_tv da v (nI w)) 10 x_11 4) 72)), (0, .ref mo)]) rfl ?_
          refine g_iload B 0 dX6_digest_221 rfl ?_
          refine g_iload B 1 dX6_digest_223 rfl ?_
          refine g_icmp_ge_T (tgt := 250) B dX6_digest_225 (by decide) (by decide) ?_
          refine g_iconst (v := 0) B dX6_digest_250 kc_0 ?_
          refine g_istore_n B 3 [(3, .int 0), (5, .int 72), (4, .int 72), (1, .long (dgN (da 16) (dgM (fun v w => d_tv da v (nI w)) 10 x_11 4) 72)), (0, .ref mo)] dX6_digest_251 rfl (Nat.le_of_ble_eq_true rfl) rfl ?_
          obtain ⟨L, hL, hL2, eL⟩ := rg_nI hl
          have tL : (di 3).toNatClampNeg = L := by rw [eL]; exact nI_clamp hL2
          refine g_lvq (lv' := [(3, .int (nI 0)), (5, .int 72), (4, .int 72), (1, .long (dgN (da 14) (dgN (da 16) (dgM (fun v w => d_tv da v (nI w)) 10 x_11 4) 72) 0)), (0, .ref mo)]) (by simp only [nI_0, dgN_0]) ?_
          refine g_loop (P := fun t_18 => gW p l e (gRm 1 22 0 0) s m ([.ref mo] : List Value).toArray below meth c (MQ below (va_Ql (fun (r : Int64) (_ : Unit) => r = d_dig da di) (fun u t => gE g (va_A [(mo, cO (dd 0) th), ((dd 0), cD dd di sm), ((dd 3), .inl (g.2.1, 4, .inl (da 3))), ((dd 4), .inl (g.2.1, 4, .inl (da 4))), ((dd 5), .inl (g.2.1, 4, .inl (da 5))), ((dd 6), .inl (g.2.1, 4, .inl (da 6))), ((dd 7), .inl (g.2.1, 4, .inl (da 7))), ((dd 8), .inl (g.2.1, 4, .inl (da 8))), ((dd 9), .inl (g.2.1, 4, .inl (da 9))), ((dd 10), .inl (g.2.1, 4, .inl (da 10))), ((dd 11), .inl (g.2.1, 4, .inl (da 11))), ((dd 12), .inl (g.2.1, 4, .inl (da 12))), ((dd 13), .inl (g.2.1, 4, .inl (da 13))), ((dd 14), .inl (g.2.1, 200, .inl (da 14))), ((dd 16), .inl (g.2.1, 72, .inl (da 16))), ((dd 17), .inl (g.2.1, 64, .inl (da 17)))] sz) ((fun _ : Unit => [(mo, cO (dd 0) (fun _ => 0)), ((dd 0), cD dd di sm), ((dd 3), .inl (g.2.1, 4, .inl (da 3))), ((dd 4), .inl (g.2.1, 4, .inl (da 4))), ((dd 5), .inl (g.2.1, 4, .inl (da 5))), ((dd 6), .inl (g.2.1, 4, .inl (da 6))), ((dd 7), .inl (g.2.1, 4, .inl (da 7))), ((dd 8), .inl (g.2.1, 4, .inl (da 8))), ((dd 9), .inl (g.2.1, 4, .inl (da 9))), ((dd 10), .inl (g.2.1, 4, .inl (da 10))), ((dd 11), .inl (g.2.1, 4, .inl (da 11))), ((dd 12), .inl (g.2.1, 4, .inl (da 12))), ((dd 13), .inl (g.2.1, 4, .inl (da 13))), ((dd 14), .inl (g.2.1, 200, .inl (da 14))), ((dd 16), .inl (g.2.1, 72, .inl (da 16))), ((dd 17), .inl (g.2.1, 64, .inl (da 17)))]) u) t) (va_A [(mo, cO (dd 0) th), ((dd 0), cD dd di sm), ((dd 3), .inl (g.2.1, 4, .inl (da 3))), ((dd 4), .inl (g.2.1, 4, .inl (da 4))), ((dd 5), .inl (g.2.1, 4, .inl (da 5))), ((dd 6), .inl (g.2.1, 4, .inl (da 6))), ((dd 7), .inl (g.2.1, 4, .inl (da 7))), ((dd 8), .inl (g.2.1, 4, .inl (da 8))), ((dd 9), .inl (g.2.1, 4, .inl (da 9))), ((dd 10), .inl (g.2.1, 4, .inl (da 10))), ((dd 11), .inl (g.2.1, 4, .inl (da 11))), ((dd 12), .inl (g.2.1, 4, .inl (da 12))), ((dd 13), .inl (g.2.1, 4, .inl (da 13))), ((dd 14), .inl (g.2.1, 200, .inl (da 14))), ((dd 16), .inl (g.2.1, 72, .inl (da 16))), ((dd 17), .inl (g.2.1, 64, .inl (da 17)))] sz)) ([.ref mo] : List Value).toArray s 0 0 (va_A [(mo, cO (dd 0) th), ((dd 0), cD dd di sm), ((dd 3), .inl (g.2.1, 4, .inl (da 3))), ((dd 4), .inl (g.2.1, 4, .inl (da 4))), ((dd 5), .inl (g.2.1, 4, .inl (da 5))), ((dd 6), .inl (g.2.1, 4, .inl (da 6))), ((dd 7), .inl (g.2.1, 4, .inl (da 7))), ((dd 8), .inl (g.2.1, 4, .inl (da 8))), ((dd 9), .inl (g.2.1, 4, .inl (da 9))), ((dd 10), .inl (g.2.1, 4, .inl (da 10))), ((dd 11), .inl (g.2.1, 4, .inl (da 11))), ((dd 12), .inl (g.2.1, 4, .inl (da 12))), ((dd 13), .inl (g.2.1, 4, .inl (da 13))), ((dd 14), .inl (g.2.1, 200, .inl (da 14))), ((dd 16), .inl (g.2.1, 72, .inl (da 16))), ((dd 17), .inl (g.2.1, 64, .inl (da 17)))] sz)) 7 g (va_A [(mo, cO (dd 0) th), ((dd 0), cD dd di sm), ((dd 3), .inl (g.2.1, 4, .inl (da 3))), ((dd 4), .inl (g.2.1, 4, .inl (da 4))), ((dd 5), .inl (g.2.1, 4, .inl (da 5))), ((dd 6), .inl (g.2.1, 4, .inl (da 6))), ((dd 7), .inl (g.2.1, 4, .inl (da 7))), ((dd 8), .inl (g.2.1, 4, .inl (da 8))), ((dd 9), .inl (g.2.1, 4, .inl (da 9))), ((dd 10), .inl (g.2.1, 4, .inl (da 10))), ((dd 11), .inl (g.2.1, 4, .inl (da 11))), ((dd 12), .inl (g.2.1, 4, .inl (da 12))), ((dd 13), .inl (g.2.1, 4, .inl (da 13))), ((dd 14), .inl (g.2.1, 200, .inl (da 14))), ((dd 16), .inl (g.2.1, 72, .inl (da 16))), ((dd 17), .inl (g.2.1, 64, .inl (da 17)))] sz) [(mo, cO (dd 0) (upd th 0 0)), ((dd 0), cD dd di sm), ((dd 3), .inl (g.2.1, 4, .inl (da 3))), ((dd 4), .inl (g.2.1, 4, .inl (da 4))), ((dd 5), .inl (g.2.1, 4, .inl (da 5))), ((dd 6), .inl (g.2.1, 4, .inl (da 6))), ((dd 7), .inl (g.2.1, 4, .inl (da 7))), ((dd 8), .inl (g.2.1, 4, .inl (da 8))), ((dd 9), .inl (g.2.1, 4, .inl (da 9))), ((dd 10), .inl (g.2.1, 4, .inl (da 10))), ((dd 11), .inl (g.2.1, 4, .inl (da 11))), ((dd 12), .inl (g.2.1, 4, .inl (da 12))), ((dd 13), .inl (g.2.1, 4, .inl (da 13))), ((dd 14), .inl (g.2.1, 200, .inl (da 14))), ((dd 16), .inl (g.2.1, 72, .inl (da 16))), ((dd 17), .inl (g.2.1, 64, .inl (da 17)))] [(3, .int (nI t_18)), (5, .int 72), (4, .int 72), (1, .long (dgN (da 14) (dgN (da 16) (dgM (fun v w => d_tv da v (nI w)) 10 x_11 4) 72) t_18)), (0, .ref mo)] [] 252 0 0) L (fun t_18 ht_18 iht_18  => ?_) ?_
          · skip
            refine g_iload_n B 3 0 dX6_digest_252 rfl rfl ?_
            refine g_aload_n B 0 4 dX6_digest_253 rfl rfl ?_
            refine g_get (C := RX6) (T := TX6) (N := 2) B 5 0 1 (.ref (dd 0)) in_X6 rfl q1049 rfl (Nat.le_of_ble_eq_true rfl) (fun _ h9 => h9) rfl dX6_digest_254 ?_
            refine g_get (C := RX7) (T := TX7) (N := 35) B 6 1 16 (.int (di 3)) in_X7 rfl q941 rfl (Nat.le_of_ble_eq_true rfl) (fun _ h9 => h9) rfl dX6_digest_257 ?_
            refine g_icmp_ge_F (tgt := 286) B dX6_digest_260 (by decide) (by rw [eL]; exact nI_ge ht_18 hL2) ?_
            refine g_lload_n B 1 3 dX6_digest_263 rfl rfl ?_
            refine g_ldc2 (v := 31) B dX6_digest_264 q1320 ?_
            refine g_lmul B dX6_digest_267 ?_
            refine g_aload_n B 0 4 dX6_digest_268 rfl rfl ?_
            refine g_get (C := RX6) (T := TX6) (N := 2) B 5 0 1 (.ref (dd 0)) in_X6 rfl q1049 rfl (Nat.le_of_ble_eq_true rfl) (fun _ h9 => h9) rfl dX6_digest_269 ?_
            refine g_get (C := RX7) (T := TX7) (N := 35) B 6 1 19 (.ref (dd 14)) in_X7 rfl q947 rfl (Nat.le_of_ble_eq_true rfl) (fun _ h9 => h9) rfl dX6_digest_272 ?_
            refine g_iload_n B 3 0 dX6_digest_275 rfl rfl ?_
            refine g_iald B 13 t_18 rfl (nI_clamp (by omega)) (vp_in_nI (by omega) (by omega)) dX6_digest_276 ?_
            refine g_i2l B dX6_digest_277 ?_
            refine g_ladd B dX6_digest_278 ?_
            refine g_topl (fun x_19 ex_19 => ?_)
            refine g_lstore_n B 1 [(1, .long x_19), (3, .int (nI t_18)), (5, .int 72), (4, .int 72), (0, .ref mo)] dX6_digest_279 rfl (Nat.le_of_ble_eq_true rfl) rfl ?_
            refine g_iinc B 1 (nI (t_18 + 1)) [(3, .int (nI (t_18 + 1))), (1, .long x_19), (5, .int 72), (4, .int 72), (0, .ref mo)] dX6_digest_280 rfl (by rw [kc_1]; exact nI_1 t_18) (Nat.le_of_ble_eq_true rfl) rfl ?_
            refine g_goto (tgt := 252) B dX6_digest_283 (by decide) ?_
            subst ex_19
            refine g_lv (lv' := [(3, .int (nI (t_18 + 1))), (5, .int 72), (4, .int 72), (1, .long (((dgN (da 14) (dgN (da 16) (dgM (fun v w => d_tv da v (nI w)) 10 x_11 4) 72) t_18) * 31) + (Int32.toInt64 ((da 14) t_18)))), (0, .ref mo)]) [0, 2, 3, 1, 4] rfl ?_
            refine g_lvq (lv' := [(3, .int (nI (t_18 + 1))), (5, .int 72), (4, .int 72), (1, .long (dgN (da 14) (dgN (da 16) (dgM (fun v w => d_tv da v (nI w)) 10 x_11 4) 72) (t_18 + 1))), (0, .ref mo)]) (by simp only [dgN_s _ _ t_18, dg]) ?_
            exact iht_18
          · skip
            refine g_iload_n B 3 0 dX6_digest_252 rfl rfl ?_
            refine g_aload_n B 0 4 dX6_digest_253 rfl rfl ?_
            refine g_get (C := RX6) (T := TX6) (N := 2) B 5 0 1 (.ref (dd 0)) in_X6 rfl q1049 rfl (Nat.le_of_ble_eq_true rfl) (fun _ h9 => h9) rfl dX6_digest_254 ?_
            refine g_get (C := RX7) (T := TX7) (N := 35) B 6 1 16 (.int (di 3)) in_X7 rfl q941 rfl (Nat.le_of_ble_eq_true rfl) (fun _ h9 => h9) rfl dX6_digest_257 ?_
            refine g_icmp_ge_T (tgt := 286) B dX6_digest_260 (by decide) (by rw [eL]; exact nI_le (Nat.le_refl L) hL2) ?_
            refine g_lload_n B 1 3 dX6_digest_286 rfl rfl ?_
            refine g_topl (fun x_20 ex_20 => ?_)
            subst ex_1
            subst hr_4
            subst ex_5
            subst ex_8
            subst hr_9
            subst hur_10
            subst ex_11
            subst ex_20
            exact g_lret B hr dX6_digest_287 (Nat.le_of_ble_eq_true rfl) (Nat.le_of_ble_eq_true rfl) () (by first | (simp only [d_dig, d_dl8, dg, d_v, tL]; done) | (simp only [d_dig, d_dl8, dg, d_v, tL]; rfl) | rfl) [0, 1, 2, 3, 4, 5, 6, 7, 8, 9, 10, 11, 12, 13, 14, 15] rfl (by first | (simp only [d_dig, d_dl8, dg, d_v, tL]; rfl) | rfl)
    refine g_if_eq (tgt := 135) B dX6_digest_128 (by decide) (fun c_6 => ?_) (fun c_6 => ?_)
    · skip
      refine g_iconst (v := 0) B dX6_digest_135 kc_0 ?_
      exact j_7 _ (by first | rfl | (simp only [d_dig, d_dl8, dg, d_v, mk_c, if_pos c_6]; done) | (simp only [d_dig, d_dl8, dg, d_v, mk_c, if_pos c_6]; rfl))
    · skip
      refine g_iconst (v := 1) B dX6_digest_131 kc_1 ?_
      refine g_goto (tgt := 136) B dX6_digest_132 (by decide) ?_
      exact j_7 _ (by first | rfl | (simp only [d_dig, d_dl8, dg, d_v, mk_c, if_neg c_6]; done) | (simp only [d_dig, d_dl8, dg, d_v, mk_c, if_neg c_6]; rfl))

set_option maxHeartbeats 4000000 in
set_option maxRecDepth 100000 in
theorem m_X6_init (l : Launch) (hst : l.stackTraces = false) (g : gG) (h0 : Nat) : gMv l yX6_init cX6_init 1 2 45 18 555 g [(h0, .inr (5, [.int 0, .null]))] [.ref h0] (fun (u : Nat → Nat) => True) (fun u : Nat → Nat => [(h0, cO (u 0) z0), ((u 0), cD u di0 0), ((u 1), .inl (g.2.1, 32, .inl (d0 1))), ((u 2), .inl (g.2.1, 48, .inl (d0 2))), ((u 3), .inl (g.2.1, 4, .inl (d0 3))), ((u 4), .inl (g.2.1, 4, .inl (d0 4))), ((u 5), .inl (g.2.1, 4, .inl (d0 5))), ((u 6), .inl (g.2.1, 4, .inl (d0 6))), ((u 7), .inl (g.2.1, 4, .inl (d0 7))), ((u 8), .inl (g.2.1, 4, .inl (d0 8))), ((u 9), .inl (g.2.1, 4, .inl (d0 9))), ((u 10), .inl (g.2.1, 4, .inl (d0 10))), ((u 11), .inl (g.2.1, 4, .inl (d0 11))), ((u 12), .inl (g.2.1, 4, .inl (d0 12))), ((u 13), .inl (g.2.1, 4, .inl (d0 13))), ((u 14), .inl (g.2.1, 200, .inl (d0 14))), ((u 15), .inl (g.2.1, 3, .inl (d0 15))), ((u 16), .inl (g.2.1, 72, .inl (d0 16))), ((u 17), .inl (g.2.1, 64, .inl (d0 17)))]) := by
  intro sz
  refine g_ent (by decide) hst [(0, .ref h0)] (Nat.le_of_ble_eq_true rfl) rfl ?_
  intro p e s m below meth c B hr hnm hsz
  have B : gB p l s m ([.ref h0] : List Value).toArray meth c RX6 cX6_init 1 g (va_A [(h0, .inr (5, [.int 0, .null]))] sz) := B
  refine g_aload_n B 0 0 dX6_init_0 rfl rfl ?_
  refine g_objInit B q903 q55 q56 (Nat.le_of_ble_eq_true rfl) (Nat.le_of_ble_eq_true rfl) dX6_init_1 ?_
  refine g_aload_n B 0 0 dX6_init_4 rfl rfl ?_
  refine g_new (C := RX7) (T := TX7) (N := 35) B 6 [.null, .null, .null, .null, .null, .null, .null, .null, .null, .null, .null, .null, .null, .int 0, .int 0, .int 0, .int 0, .int 0, .int 0, .null, .null, .null, .int 0, .int 0, .int 0, .int 0, .int 0, .int 0, .int 0, .null, .int 0, .int 0, .int 0, .int 0, .long 0] in_X7 tyX7 tyX7_ok q904 q905 q39 rfl dfX7 (Nat.le_of_ble_eq_true rfl) (Nat.le_of_ble_eq_true rfl) dX6_init_5 (fun a_1 => ?_)
  refine g_dup B dX6_init_8 rfl ?_
  refine g_cI_v (As := []) B (m_X7_init l hst g a_1) [1] [.ref a_1, .ref h0] (lw_meth q908) q39 q906 q907 rfl nsX7_init rfl rfl (fun _ => rfl) rfl rfl (Nat.le_of_ble_eq_true rfl) dX6_init_9 ⟨Nat.le_of_ble_eq_true rfl, Nat.le_of_ble_eq_true rfl⟩ ⟨Nat.le_of_ble_eq_true rfl, Nat.le_of_ble_eq_true rfl⟩ (fun ur_2 hr_2 => ?_)
  refine g_eqw (ws' := [(h0, .inr (5, [.int 0, .null])), (a_1, cD ur_2 di0 0), ((ur_2 1), .inl (g.2.1, 32, .inl (d0 1))), ((ur_2 2), .inl (g.2.1, 48, .inl (d0 2))), ((ur_2 3), .inl (g.2.1, 4, .inl (d0 3))), ((ur_2 4), .inl (g.2.1, 4, .inl (d0 4))), ((ur_2 5), .inl (g.2.1, 4, .inl (d0 5))), ((ur_2 6), .inl (g.2.1, 4, .inl (d0 6))), ((ur_2 7), .inl (g.2.1, 4, .inl (d0 7))), ((ur_2 8), .inl (g.2.1, 4, .inl (d0 8))), ((ur_2 9), .inl (g.2.1, 4, .inl (d0 9))), ((ur_2 10), .inl (g.2.1, 4, .inl (d0 10))), ((ur_2 11), .inl (g.2.1, 4, .inl (d0 11))), ((ur_2 12), .inl (g.2.1, 4, .inl (d0 12))), ((ur_2 13), .inl (g.2.1, 4, .inl (d0 13))), ((ur_2 14), .inl (g.2.1, 200, .inl (d0 14))), ((ur_2 15), .inl (g.2.1, 3, .inl (d0 15))), ((ur_2 16), .inl (g.2.1, 72, .inl (d0 16))), ((ur_2 17), .inl (g.2.1, 64, .inl (d0 17)))]) rfl ?_
  obtain rfl : ur_2 0 = a_1 := hr_2
  refine g_putF (C := RX6) (T := TX6) (N := 2) (ty := (.object "MelodeonModel$Desk")) (v := .ref (ur_2 0)) B 5 0 1 [(h0, .inr (5, [.int 0, .ref (ur_2 0)])), ((ur_2 0), cD ur_2 di0 0), ((ur_2 1), .inl (g.2.1, 32, .inl (d0 1))), ((ur_2 2), .inl (g.2.1, 48, .inl (d0 2))), ((ur_2 3), .inl (g.2.1, 4, .inl (d0 3))), ((ur_2 4), .inl (g.2.1, 4, .inl (d0 4))), ((ur_2 5), .inl (g.2.1, 4, .inl (d0 5))), ((ur_2 6), .inl (g.2.1, 4, .inl (d0 6))), ((ur_2 7), .inl (g.2.1, 4, .inl (d0 7))), ((ur_2 8), .inl (g.2.1, 4, .inl (d0 8))), ((ur_2 9), .inl (g.2.1, 4, .inl (d0 9))), ((ur_2 10), .inl (g.2.1, 4, .inl (d0 10))), ((ur_2 11), .inl (g.2.1, 4, .inl (d0 11))), ((ur_2 12), .inl (g.2.1, 4, .inl (d0 12))), ((ur_2 13), .inl (g.2.1, 4, .inl (d0 13))), ((ur_2 14), .inl (g.2.1, 200, .inl (d0 14))), ((ur_2 15), .inl (g.2.1, 3, .inl (d0 15))), ((ur_2 16), .inl (g.2.1, 72, .inl (d0 16))), ((ur_2 17), .inl (g.2.1, 64, .inl (d0 17)))] in_X6 tyX6 tyX6_ok nmX6 rfl q1049 rfl (Nat.le_of_ble_eq_true rfl) (fun _ h9 => h9) rfl hnm rfl rfl rfl rfl (Nat.le_of_ble_eq_true rfl) rfl dX6_init_12 ?_
  exact g_vret B hr dX6_init_15 (Nat.le_of_ble_eq_true rfl) (Nat.le_of_ble_eq_true rfl) ur_2 trivial [0, 1, 2, 3, 4, 5, 6, 7, 8, 9, 10, 11, 12, 13, 14, 15, 16, 17, 18] rfl rfl
