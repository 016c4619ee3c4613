/-! contracts: a sample of the desk -/
set_option maxRecDepth 100000

theorem nvX7_gives : yX7_gives.cls = RX7 ∧ yX7_gives.cls ≠ "java/lang/invoke/MethodHandle" ∧ yX7_gives.cls ≠ "java/lang/invoke/VarHandle" ∧ (parseMethodDescriptor yX7_gives.desc).map (fun d => d.parameters.length) = some 1 := by decide +kernel
theorem nvX7_goOnTracks : yX7_goOnTracks.cls = RX7 ∧ yX7_goOnTracks.cls ≠ "java/lang/invoke/MethodHandle" ∧ yX7_goOnTracks.cls ≠ "java/lang/invoke/VarHandle" ∧ (parseMethodDescriptor yX7_goOnTracks.desc).map (fun d => d.parameters.length) = some 0 := by decide +kernel
theorem d_sm_eq {da : Nat → Nat → Int32} {di : Nat → Int32} {F G : Nat → Nat → Int32} {J : Nat → Int32} {x t i : Int32} (hF : (d_gt da di).1 = F) (hJ : (d_gt da di).2 = J) (hG : d_4 (J 12) F = G) (hM : d_m (J 12) (J 2) F = x) (hi : i = d_its J x (G 14)) (ht : t = pkp i 32767) : d_smA da di = va_up (va_up (va_up G 14 (d_dl J x (G 14))) 17 (mk_hd (G 17) t)) 12 (d_dc (d_dc (d_dc (d_dc (G 12) 0) 1) 2) 3) ∧ d_smD da di = d_go (d_i5 J t i ((G 17) 0)) ∧ d_smR da di = t := by
  unfold d_smA d_smD d_smR d_sA d_sD d_sI
  rw [hF, hJ, hG, hM, ← hi, ← ht]
  exact ⟨rfl, rfl, rfl⟩

set_option maxHeartbeats 4000000 in
set_option maxRecDepth 100000 in
theorem X7_sample_b {p : Program} {l : Launch} {e : Env} {R : Room} {s : State} {m : MethodId} {av : Array Value} {below : List Frame} {meth : Method} {c : Code} {Q : State → Prop} {g : gG} {A : Nat → Prop} (B : gB p l s m av meth c RX7 cX7_sample 5 g A) (dd : Nat → Nat) (K : Nat → Int32) (G : Nat → Nat → Int32) (u14 u17 : Nat → Int32) (r x i : Int32) (sm : Int64) (hend : ∀ J : Nat → Int32, J = d_go K → gW p l e R s m av below meth c Q 5 g A [((dd 0), cD dd J sm), ((dd 1), .inl (g.2.1, 32, .inl (G 1))), ((dd 2), .inl (g.2.1, 48, .inl (G 2))), ((dd 3), .inl (g.2.1, 4, .inl (G 3))), ((dd 4), .inl (g.2.1, 4, .inl (G 4))), ((dd 5), .inl (g.2.1, 4, .inl (G 5))), ((dd 6), .inl (g.2.1, 4, .inl (G 6))), ((dd 7), .inl (g.2.1, 4, .inl (G 7))), ((dd 8), .inl (g.2.1, 4, .inl (G 8))), ((dd 9), .inl (g.2.1, 4, .inl (G 9))), ((dd 10), .inl (g.2.1, 4, .inl (G 10))), ((dd 11), .inl (g.2.1, 4, .inl (G 11))), ((dd 12), .inl (g.2.1, 4, .inl (d_dc (d_dc (d_dc (d_dc (G 12) 0) 1) 2) 3))), ((dd 13), .inl (g.2.1, 4, .inl (G 13))), ((dd 14), .inl (g.2.1, 200, .inl u14)), ((dd 15), .inl (g.2.1, 3, .inl (G 15))), ((dd 16), .inl (g.2.1, 72, .inl (G 16))), ((dd 17), .inl (g.2.1, 64, .inl u17))] [(4, .int 4), (3, .int r), (2, .int i), (1, .int x), (0, .ref (dd 0))] [.int r] 318 4 48) : gW p l e R s m av below meth c Q 5 g A [((dd 0), cD dd K sm), ((dd 1), .inl (g.2.1, 32, .inl (G 1))), ((dd 2), .inl (g.2.1, 48, .inl (G 2))), ((dd 3), .inl (g.2.1, 4, .inl (G 3))), ((dd 4), .inl (g.2.1, 4, .inl (G 4))), ((dd 5), .inl (g.2.1, 4, .inl (G 5))), ((dd 6), .inl (g.2.1, 4, .inl (G 6))), ((dd 7), .inl (g.2.1, 4, .inl (G 7))), ((dd 8), .inl (g.2.1, 4, .inl (G 8))), ((dd 9), .inl (g.2.1, 4, .inl (G 9))), ((dd 10), .inl (g.2.1, 4, .inl (G 10))), ((dd 11), .inl (g.2.1, 4, .inl (G 11))), ((dd 12), .inl (g.2.1, 4, .inl (G 12))), ((dd 13), .inl (g.2.1, 4, .inl (G 13))), ((dd 14), .inl (g.2.1, 200, .inl u14)), ((dd 15), .inl (g.2.1, 3, .inl (G 15))), ((dd 16), .inl (g.2.1, 72, .inl (G 16))), ((dd 17), .inl (g.2.1, 64, .inl u17))] [(3, .int r), (2, .int i), (1, .int x), (0, .ref (dd 0))] [] 238 4 48 := by
  refine g_iconst (v := 0) B dX7_sample_238 kc_0 ?_
  refine g_istore B [(4, .int 0), (3, .int r), (2, .int i), (1, .int x), (0, .ref (dd 0))] dX7_sample_239 (Nat.le_of_ble_eq_true rfl) rfl ?_
  refine g_iload B 0 dX7_sample_241 rfl ?_
  refine g_iconst (v := 4) B dX7_sample_243 kc_4 ?_
  refine g_icmp_ge_F (tgt := 274) B dX7_sample_244 (by decide) (by decide) ?_
  refine g_aload_n B 0 4 dX7_sample_247 rfl rfl ?_
  refine g_get (C := RX7) (T := TX7) (N := 35) B 6 0 11 (.ref (dd 12)) in_X7 rfl q932 rfl (Nat.le_of_ble_eq_true rfl) (fun _ h9 => h9) rfl dX7_sample_248 ?_
  refine g_iload B 0 dX7_sample_251 rfl ?_
  refine g_iald B 12 0 rfl (by decide) (vpc rfl) dX7_sample_253 ?_
  have j_2 : ∀ (A_3 : Nat → Int32), A_3 = d_dc (G 12) 0 → gW p l e R s m av below meth c Q 5 g A [((dd 0), cD dd K sm), ((dd 1), .inl (g.2.1, 32, .inl (G 1))), ((dd 2), .inl (g.2.1, 48, .inl (G 2))), ((dd 3), .inl (g.2.1, 4, .inl (G 3))), ((dd 4), .inl (g.2.1, 4, .inl (G 4))), ((dd 5), .inl (g.2.1, 4, .inl (G 5))), ((dd 6), .inl (g.2.1, 4, .inl (G 6))), ((dd 7), .inl (g.2.1, 4, .inl (G 7))), ((dd 8), .inl (g.2.1, 4, .inl (G 8))), ((dd 9), .inl (g.2.1, 4, .inl (G 9))), ((dd 10), .inl (g.2.1, 4, .inl (G 10))), ((dd 11), .inl (g.2.1, 4, .inl (G 11))), ((dd 12), .inl (g.2.1, 4, .inl A_3)), ((dd 13), .inl (g.2.1, 4, .inl (G 13))), ((dd 14), .inl (g.2.1, 200, .inl u14)), ((dd 15), .inl (g.2.1, 3, .inl (G 15))), ((dd 16), .inl (g.2.1, 72, .inl (G 16))), ((dd 17), .inl (g.2.1, 64, .inl u17))] [(4, .int 0), (3, .int r), (2, .int i), (1, .int x), (0, .ref (dd 0))] [] 268 4 48 := by
    intro A_3 hD0
    refine g_iinc B 0 1 [(4, .int 1), (3, .int r), (2, .int i), (1, .int x), (0, .ref (dd 0))] dX7_sample_268 rfl (by decide) (Nat.le_of_ble_eq_true rfl) rfl ?_
    refine g_goto (tgt := 241) B dX7_sample_271 (by decide) ?_
    refine g_iload B 0 dX7_sample_241 rfl ?_
    refine g_iconst (v := 4) B dX7_sample_243 kc_4 ?_
    refine g_icmp_ge_F (tgt := 274) B dX7_sample_244 (by decide) (by decide) ?_
    refine g_aload_n B 0 4 dX7_sample_247 rfl rfl ?_
    refine g_get (C := RX7) (T := TX7) (N := 35) B 6 0 11 (.ref (dd 12)) in_X7 rfl q932 rfl (Nat.le_of_ble_eq_true rfl) (fun _ h9 => h9) rfl dX7_sample_248 ?_
    refine g_iload B 0 dX7_sample_251 rfl ?_
    refine g_iald B 12 1 rfl (by decide) (vpc rfl) dX7_sample_253 ?_
    have j_5 : ∀ (A_6 : Nat → Int32), A_6 = d_dc A_3 1 → gW p l e R s m av below meth c Q 5 g A [((dd 0), cD dd K sm), ((dd 1), .inl (g.2.1, 32, .inl (G 1))), ((dd 2), .inl (g.2.1, 48, .inl (G 2))), ((dd 3), .inl (g.2.1, 4, .inl (G 3))), ((dd 4), .inl (g.2.1, 4, .inl (G 4))), ((dd 5), .inl (g.2.1, 4, .inl (G 5))), ((dd 6), .inl (g.2.1, 4, .inl (G 6))), ((dd 7), .inl (g.2.1, 4, .inl (G 7))), ((dd 8), .inl (g.2.1, 4, .inl (G 8))), ((dd 9), .inl (g.2.1, 4, .inl (G 9))), ((dd 10), .inl (g.2.1, 4, .inl (G 10))), ((dd 11), .inl (g.2.1, 4, .inl (G 11))), ((dd 12), .inl (g.2.1, 4, .inl A_6)), ((dd 13), .inl (g.2.1, 4, .inl (G 13))), ((dd 14), .inl (g.2.1, 200, .inl u14)), ((dd 15), .inl (g.2.1, 3, .inl (G 15))), ((dd 16), .inl (g.2.1, 72, .inl (G 16))), ((dd 17), .inl (g.2.1, 64, .inl u17))] [(4, .int 1), (3, .int r), (2, .int i), (1, .int x), (0, .ref (dd 0))] [] 268 4 48 := by
      intro A_6 hD1
      refine g_iinc B 0 2 [(4, .int 2), (3, .int r), (2, .int i), (1, .int x), (0, .ref (dd 0))] dX7_sample_268 rfl (by decide) (Nat.le_of_ble_eq_true rfl) rfl ?_
      refine g_goto (tgt := 241) B dX7_sample_271 (by decide) ?_
      refine g_iload B 0 dX7_sample_241 rfl ?_
      refine g_iconst (v := 4) B dX7_sample_243 kc_4 ?_
      refine g_icmp_ge_F (tgt := 274) B dX7_sample_244 (by decide) (by decide) ?_
      refine g_aload_n B 0 4 dX7_sample_247 rfl rfl ?_
      refine g_get (C := RX7) (T := TX7) (N := 35) B 6 0 11 (.ref (dd 12)) in_X7 rfl q932 rfl (Nat.le_of_ble_eq_true rfl) (fun _ h9 => h9) rfl dX7_sample_248 ?_
      refine g_iload B 0 dX7_sample_251 rfl ?_
      refine g_iald B 12 2 rfl (by decide) (vpc rfl) dX7_sample_253 ?_
      have j_8 : ∀ (A_9 : Nat → Int32), A_9 = d_dc A_6 2 → gW p l e R s m av below meth c Q 5 g A [((dd 0), cD dd K sm), ((dd 1), .inl (g.2.1, 32, .inl (G 1))), ((dd 2), .inl (g.2.1, 48, .inl (G 2))), ((dd 3), .inl (g.2.1, 4, .inl (G 3))), ((dd 4), .inl (g.2.1, 4, .inl (G 4))), ((dd 5), .inl (g.2.1, 4, .inl (G 5))), ((dd 6), .inl (g.2.1, 4, .inl (G 6))), ((dd 7), .inl (g.2.1, 4, .inl (G 7))), ((dd 8), .inl (g.2.1, 4, .inl (G 8))), ((dd 9), .inl (g.2.1, 4, .inl (G 9))), ((dd 10), .inl (g.2.1, 4, .inl (G 10))), ((dd 11), .inl (g.2.1, 4, .inl (G 11))), ((dd 12), .inl (g.2.1, 4, .inl A_9)), ((dd 13), .inl (g.2.1, 4, .inl (G 13))), ((dd 14), .inl (g.2.1, 200, .inl u14)), ((dd 15), .inl (g.2.1, 3, .inl (G 15))), ((dd 16), .inl (g.2.1, 72, .inl (G 16))), ((dd 17), .inl (g.2.1, 64, .inl u17))] [(4, .int 2), (3, .int r), (2, .int i), (1, .int x), (0, .ref (dd 0))] [] 268 4 48 := by
        intro A_9 hD2
        refine g_iinc B 0 3 [(4, .int 3), (3, .int r), (2, .int i), (1, .int x), (0, .ref (dd 0))] dX7_sample_268 rfl (by decide) (Nat.le_of_ble_eq_true rfl) rfl ?_
        refine g_goto (tgt := 241) B dX7_sample_271 (by decide) ?_
        refine g_iload B 0 dX7_sample_241 rfl ?_
        refine g_iconst (v := 4) B dX7_sample_243 kc_4 ?_
        refine g_icmp_ge_F (tgt := 274) B dX7_sample_244 (by decide) (by decide) ?_
        refine g_aload_n B 0 4 dX7_sample_247 rfl rfl ?_
        refine g_get (C := RX7) (T := TX7) (N := 35) B 6 0 11 (.ref (dd 12)) in_X7 rfl q932 rfl (Nat.le_of_ble_eq_true rfl) (fun _ h9 => h9) rfl dX7_sample_248 ?_
        refine g_iload B 0 dX7_sample_251 rfl ?_
        refine g_iald B 12 3 rfl (by decide) (vpc rfl) dX7_sample_253 ?_
        have j_11 : ∀ (A_12 : Nat → Int32), A_12 = d_dc A_9 3 → gW p l e R s m av below meth c Q 5 g A [((dd 0), cD dd K sm), ((dd 1), .inl (g.2.1, 32, .inl (G 1))), ((dd 2), .inl (g.2.1, 48, .inl (G 2))), ((dd 3), .inl (g.2.1, 4, .inl (G 3))), ((dd 4), .inl (g.2.1, 4, .inl (G 4))), ((dd 5), .inl (g.2.1, 4, .inl (G 5))), ((dd 6), .inl (g.2.1, 4, .inl (G 6))), ((dd 7), .inl (g.2.1, 4, .inl (G 7))), ((dd 8), .inl (g.2.1, 4, .inl (G 8))), ((dd 9), .inl (g.2.1, 4, .inl (G 9))), ((dd 10), .inl (g.2.1, 4, .inl (G 10))), ((dd 11), .inl (g.2.1, 4, .inl (G 11))), ((dd 12), .inl (g.2.1, 4, .inl A_12)), ((dd 13), .inl (g.2.1, 4, .inl (G 13))), ((dd 14), .inl (g.2.1, 200, .inl u14)), ((dd 15), .inl (g.2.1, 3, .inl (G 15))), ((dd 16), .inl (g.2.1, 72, .inl (G 16))), ((dd 17), .inl (g.2.1, 64, .inl u17))] [(4, .int 3), (3, .int r), (2, .int i), (1, .int x), (0, .ref (dd 0))] [] 268 4 48 := by
          intro A_12 hD3
          refine g_iinc B 0 4 [(4, .int 4), (3, .int r), (2, .int i), (1, .int x), (0, .ref (dd 0))] dX7_sample_268 rfl (by decide) (Nat.le_of_ble_eq_true rfl) rfl ?_
          refine g_goto (tgt := 241) B dX7_sample_271 (by decide) ?_
          refine g_iload B 0 dX7_sample_241 rfl ?_
          refine g_iconst (v := 4) B dX7_sample_243 kc_4 ?_
          refine g_icmp_ge_T (tgt := 274) B dX7_sample_244 (by decide) (by decide) ?_
          refine g_aload_n B 0 4 dX7_sample_274 rfl rfl ?_
          refine g_get (C := RX7) (T := TX7) (N := 35) B 6 0 24 (.int (K 8)) in_X7 rfl q956 rfl (Nat.le_of_ble_eq_true rfl) (fun _ h9 => h9) rfl dX7_sample_275 ?_
          refine g_if_eq (tgt := 317) B dX7_sample_278 (by decide) (fun c_13 => ?_) (fun c_13 => ?_)
          · skip
            refine g_iload_n B 3 1 dX7_sample_317 rfl rfl ?_
            subst hD3
            subst hD2
            subst hD1
            subst hD0
            exact hend _ (by simp only [d_go, if_pos c_13])
          · skip
            refine g_aload_n B 0 4 dX7_sample_281 rfl rfl ?_
            refine g_dup B dX7_sample_282 rfl ?_
            refine g_get (C := RX7) (T := TX7) (N := 35) B 6 0 26 (.int (K 10)) in_X7 rfl q960 rfl (Nat.le_of_ble_eq_true rfl) (fun _ h9 => h9) rfl dX7_sample_283 ?_
            refine g_iconst (v := 1) B dX7_sample_286 kc_1 ?_
            refine g_iadd B dX7_sample_287 ?_
            refine g_dup_x1 B dX7_sample_288 rfl rfl ?_
            refine g_put (C := RX7) (T := TX7) (N := 35) (ty := .int) (v := .int ((K 10) + 1)) B 6 0 26 [((dd 0), cD dd (upd K 10 ((K 10) + 1)) sm), ((dd 1), .inl (g.2.1, 32, .inl (G 1))), ((dd 2), .inl (g.2.1, 48, .inl (G 2))), ((dd 3), .inl (g.2.1, 4, .inl (G 3))), ((dd 4), .inl (g.2.1, 4, .inl (G 4))), ((dd 5), .inl (g.2.1, 4, .inl (G 5))), ((dd 6), .inl (g.2.1, 4, .inl (G 6))), ((dd 7), .inl (g.2.1, 4, .inl (G 7))), ((dd 8), .inl (g.2.1, 4, .inl (G 8))), ((dd 9), .inl (g.2.1, 4, .inl (G 9))), ((dd 10), .inl (g.2.1, 4, .inl (G 10))), ((dd 11), .inl (g.2.1, 4, .inl (G 11))), ((dd 12), .inl (g.2.1, 4, .inl A_12)), ((dd 13), .inl (g.2.1, 4, .inl (G 13))), ((dd 14), .inl (g.2.1, 200, .inl u14)), ((dd 15), .inl (g.2.1, 3, .inl (G 15))), ((dd 16), .inl (g.2.1, 72, .inl (G 16))), ((dd 17), .inl (g.2.1, 64, .inl u17))] in_X7 tyX7 tyX7_ok nmX7 rfl q960 rfl (Nat.le_of_ble_eq_true rfl) (fun _ h9 => h9) rfl rfl rfl rfl (Nat.le_of_ble_eq_true rfl) rfl dX7_sample_289 ?_
            refine g_aload_n B 0 4 dX7_sample_292 rfl rfl ?_
            refine g_get (C := RX7) (T := TX7) (N := 35) B 6 0 27 (.int (K 11)) in_X7 rfl q962 rfl (Nat.le_of_ble_eq_true rfl) (fun _ h9 => h9) rfl dX7_sample_293 ?_
            refine g_icmp_ne (tgt := 317) B dX7_sample_296 (by decide) (fun c_14 => ?_) (fun c_14 => ?_)
            · skip
              refine g_iload_n B 3 1 dX7_sample_317 rfl rfl ?_
              subst hD3
              subst hD2
              subst hD1
              subst hD0
              exact hend _ (by simp only [d_go, if_neg c_13, if_neg c_14])
            · skip
              refine g_aload_n B 0 4 dX7_sample_299 rfl rfl ?_
              refine g_iconst (v := 0) B dX7_sample_300 kc_0 ?_
              refine g_put (C := RX7) (T := TX7) (N := 35) (ty := .int) (v := .int 0) B 6 0 26 [((dd 0), cD dd (upd (upd K 10 ((K 10) + 1)) 10 0) sm), ((dd 1), .inl (g.2.1, 32, .inl (G 1))), ((dd 2), .inl (g.2.1, 48, .inl (G 2))), ((dd 3), .inl (g.2.1, 4, .inl (G 3))), ((dd 4), .inl (g.2.1, 4, .inl (G 4))), ((dd 5), .inl (g.2.1, 4, .inl (G 5))), ((dd 6), .inl (g.2.1, 4, .inl (G 6))), ((dd 7), .inl (g.2.1, 4, .inl (G 7))), ((dd 8), .inl (g.2.1, 4, .inl (G 8))), ((dd 9), .inl (g.2.1, 4, .inl (G 9))), ((dd 10), .inl (g.2.1, 4, .inl (G 10))), ((dd 11), .inl (g.2.1, 4, .inl (G 11))), ((dd 12), .inl (g.2.1, 4, .inl A_12)), ((dd 13), .inl (g.2.1, 4, .inl (G 13))), ((dd 14), .inl (g.2.1, 200, .inl u14)), ((dd 15), .inl (g.2.1, 3, .inl (G 15))), ((dd 16), .inl (g.2.1, 72, .inl (G 16))), ((dd 17), .inl (g.2.1, 64, .inl u17))] in_X7 tyX7 tyX7_ok nmX7 rfl q960 rfl (Nat.le_of_ble_eq_true rfl) (fun _ h9 => h9) rfl rfl rfl rfl (Nat.le_of_ble_eq_true rfl) rfl dX7_sample_301 ?_
              refine g_aload_n B 0 4 dX7_sample_304 rfl rfl ?_
              refine g_aload_n B 0 4 dX7_sample_305 rfl rfl ?_
              refine g_get (C := RX7) (T := TX7) (N := 35) B 6 0 25 (.int (K 9)) in_X7 rfl q958 rfl (Nat.le_of_ble_eq_true rfl) (fun _ h9 => h9) rfl dX7_sample_306 ?_
              refine g_iconst (v := 1) B dX7_sample_309 kc_1 ?_
              refine g_iadd B dX7_sample_310 ?_
              refine g_bipush (v := 8) B dX7_sample_311 kb_8 ?_
              refine g_irem B dX7_sample_313 (by decide) ?_
              refine g_topi (fun x_15 ex_15 => ?_)
              refine g_put (C := RX7) (T := TX7) (N := 35) (ty := .int) (v := .int x_15) B 6 0 25 [((dd 0), cD dd (upd (upd (upd K 10 ((K 10) + 1)) 10 0) 9 x_15) sm), ((dd 1), .inl (g.2.1, 32, .inl (G 1))), ((dd 2), .inl (g.2.1, 48, .inl (G 2))), ((dd 3), .inl (g.2.1, 4, .inl (G 3))), ((dd 4), .inl (g.2.1, 4, .inl (G 4))), ((dd 5), .inl (g.2.1, 4, .inl (G 5))), ((dd 6), .inl (g.2.1, 4, .inl (G 6))), ((dd 7), .inl (g.2.1, 4, .inl (G 7))), ((dd 8), .inl (g.2.1, 4, .inl (G 8))), ((dd 9), .inl (g.2.1, 4, .inl (G 9))), ((dd 10), .inl (g.2.1, 4, .inl (G 10))), ((dd 11), .inl (g.2.1, 4, .inl (G 11))), ((dd 12), .inl (g.2.1, 4, .inl A_12)), ((dd 13), .inl (g.2.1, 4, .inl (G 13))), ((dd 14), .inl (g.2.1, 200, .inl u14)), ((dd 15), .inl (g.2.1, 3, .inl (G 15))), ((dd 16), .inl (g.2.1, 72, .inl (G 16))), ((dd 17), .inl (g.2.1, 64, .inl u17))] in_X7 tyX7 tyX7_ok nmX7 rfl q958 rfl (Nat.le_of_ble_eq_true rfl) (fun _ h9 => h9) rfl rfl rfl rfl (Nat.le_of_ble_eq_true rfl) rfl dX7_sample_314 ?_
              refine g_iload_n B 3 1 dX7_sample_317 rfl rfl ?_
              subst hD3
              subst hD2
              subst hD1
              subst hD0
              subst ex_15
              exact hend _ (by simp only [d_go, if_neg c_13, if_pos c_14])
        refine g_if_le (tgt := 268) B dX7_sample_254 (by decide) (fun c_10 => ?_) (fun c_10 => ?_)
        · skip
          exact j_11 _ (by simp only [d_dc, if_pos c_10])
        · skip
          refine g_aload_n B 0 4 dX7_sample_257 rfl rfl ?_
          refine g_get (C := RX7) (T := TX7) (N := 35) B 6 0 11 (.ref (dd 12)) in_X7 rfl q932 rfl (Nat.le_of_ble_eq_true rfl) (fun _ h9 => h9) rfl dX7_sample_258 ?_
          refine g_iload B 0 dX7_sample_261 rfl ?_
          refine g_dup2 B dX7_sample_263 rfl rfl ?_
          refine g_iald B 12 3 rfl (by decide) (vpc rfl) dX7_sample_264 ?_
          refine g_iconst (v := 1) B dX7_sample_265 kc_1 ?_
          refine g_isub B dX7_sample_266 ?_
          refine g_iast B 12 3 [((dd 0), cD dd K sm), ((dd 1), .inl (g.2.1, 32, .inl (G 1))), ((dd 2), .inl (g.2.1, 48, .inl (G 2))), ((dd 3), .inl (g.2.1, 4, .inl (G 3))), ((dd 4), .inl (g.2.1, 4, .inl (G 4))), ((dd 5), .inl (g.2.1, 4, .inl (G 5))), ((dd 6), .inl (g.2.1, 4, .inl (G 6))), ((dd 7), .inl (g.2.1, 4, .inl (G 7))), ((dd 8), .inl (g.2.1, 4, .inl (G 8))), ((dd 9), .inl (g.2.1, 4, .inl (G 9))), ((dd 10), .inl (g.2.1, 4, .inl (G 10))), ((dd 11), .inl (g.2.1, 4, .inl (G 11))), ((dd 12), .inl (g.2.1, 4, .inl (upd A_9 3 ((A_9 3) - 1)))), ((dd 13), .inl (g.2.1, 4, .inl (G 13))), ((dd 14), .inl (g.2.1, 200, .inl u14)), ((dd 15), .inl (g.2.1, 3, .inl (G 15))), ((dd 16), .inl (g.2.1, 72, .inl (G 16))), ((dd 17), .inl (g.2.1, 64, .inl u17))] rfl (by decide) (vpc rfl) rfl dX7_sample_267 ?_
          exact j_11 _ (by simp only [d_dc, if_neg c_10])
      refine g_if_le (tgt := 268) B dX7_sample_254 (by decide) (fun c_7 => ?_) (fun c_7 => ?_)
      · skip
        exact j_8 _ (by simp only [d_dc, if_pos c_7])
      · skip
        refine g_aload_n B 0 4 dX7_sample_257 rfl rfl ?_
        refine g_get (C := RX7) (T := TX7) (N := 35) B 6 0 11 (.ref (dd 12)) in_X7 rfl q932 rfl (Nat.le_of_ble_eq_true rfl) (fun _ h9 => h9) rfl dX7_sample_258 ?_
        refine g_iload B 0 dX7_sample_261 rfl ?_
        refine g_dup2 B dX7_sample_263 rfl rfl ?_
        refine g_iald B 12 2 rfl (by decide) (vpc rfl) dX7_sample_264 ?_
        refine g_iconst (v := 1) B dX7_sample_265 kc_1 ?_
        refine g_isub B dX7_sample_266 ?_
        refine g_iast B 12 2 [((dd 0), cD dd K sm), ((dd 1), .inl (g.2.1, 32, .inl (G 1))), ((dd 2), .inl (g.2.1, 48, .inl (G 2))), ((dd 3), .inl (g.2.1, 4, .inl (G 3))), ((dd 4), .inl (g.2.1, 4, .inl (G 4))), ((dd 5), .inl (g.2.1, 4, .inl (G 5))), ((dd 6), .inl (g.2.1, 4, .inl (G 6))), ((dd 7), .inl (g.2.1, 4, .inl (G 7))), ((dd 8), .inl (g.2.1, 4, .inl (G 8))), ((dd 9), .inl (g.2.1, 4, .inl (G 9))), ((dd 10), .inl (g.2.1, 4, .inl (G 10))), ((dd 11), .inl (g.2.1, 4, .inl (G 11))), ((dd 12), .inl (g.2.1, 4, .inl (upd A_6 2 ((A_6 2) - 1)))), ((dd 13), .inl (g.2.1, 4, .inl (G 13))), ((dd 14), .inl (g.2.1, 200, .inl u14)), ((dd 15), .inl (g.2.1, 3, .inl (G 15))), ((dd 16), .inl (g.2.1, 72, .inl (G 16))), ((dd 17), .inl (g.2.1, 64, .inl u17))] rfl (by decide) (vpc rfl) rfl dX7_sample_267 ?_
        exact j_8 _ (by simp only [d_dc, if_neg c_7])
    refine g_if_le (tgt := 268) B dX7_sample_254 (by decide) (fun c_4 => ?_) (fun c_4 => ?_)
    · skip
      exact j_5 _ (by simp only [d_dc, if_pos c_4])
    · skip
      refine g_aload_n B 0 4 dX7_sample_257 rfl rfl ?_
      refine g_get (C := RX7) (T := TX7) (N := 35) B 6 0 11 (.ref (dd 12)) in_X7 rfl q932 rfl (Nat.le_of_ble_eq_true rfl) (fun _ h9 => h9) rfl dX7_sample_258 ?_
      refine g_iload B 0 dX7_sample_261 rfl ?_
      refine g_dup2 B dX7_sample_263 rfl rfl ?_
      refine g_iald B 12 1 rfl (by decide) (vpc rfl) dX7_sample_264 ?_
      refine g_iconst (v := 1) B dX7_sample_265 kc_1 ?_
      refine g_isub B dX7_sample_266 ?_
      refine g_iast B 12 1 [((dd 0), cD dd K sm), ((dd 1), .inl (g.2.1, 32, .inl (G 1))), ((dd 2), .inl (g.2.1, 48, .inl (G 2))), ((dd 3), .inl (g.2.1, 4, .inl (G 3))), ((dd 4), .inl (g.2.1, 4, .inl (G 4))), ((dd 5), .inl (g.2.1, 4, .inl (G 5))), ((dd 6), .inl (g.2.1, 4, .inl (G 6))), ((dd 7), .inl (g.2.1, 4, .inl (G 7))), ((dd 8), .inl (g.2.1, 4, .inl (G 8))), ((dd 9), .inl (g.2.1, 4, .inl (G 9))), ((dd 10), .inl (g.2.1, 4, .inl (G 10))), ((dd 11), .inl (g.2.1, 4, .inl (G 11))), ((dd 12), .inl (g.2.1, 4, .inl (upd A_3 1 ((A_3 1) - 1)))), ((dd 13), .inl (g.2.1, 4, .inl (G 13))), ((dd 14), .inl (g.2.1, 200, .inl u14)), ((dd 15), .inl (g.2.1, 3, .inl (G 15))), ((dd 16), .inl (g.2.1, 72, .inl (G 16))), ((dd 17), .inl (g.2.1, 64, .inl u17))] rfl (by decide) (vpc rfl) rfl dX7_sample_267 ?_
      exact j_5 _ (by simp only [d_dc, if_neg c_4])
  refine g_if_le (tgt := 268) B dX7_sample_254 (by decide) (fun c_1 => ?_) (fun c_1 => ?_)
  · skip
    exact j_2 _ (by simp only [d_dc, if_pos c_1])
  · skip
    refine g_aload_n B 0 4 dX7_sample_257 rfl rfl ?_
    refine g_get (C := RX7) (T := TX7) (N := 35) B 6 0 11 (.ref (dd 12)) in_X7 rfl q932 rfl (Nat.le_of_ble_eq_true rfl) (fun _ h9 => h9) rfl dX7_sample_258 ?_
    refine g_iload B 0 dX7_sample_261 rfl ?_
    refine g_dup2 B dX7_sample_263 rfl rfl ?_
    refine g_iald B 12 0 rfl (by decide) (vpc rfl) dX7_sample_264 ?_
    refine g_iconst (v := 1) B dX7_sample_265 kc_1 ?_
    refine g_isub B dX7_sample_266 ?_
    refine g_topi (fun x_16 ex_16 => ?_)
    refine g_iast B 12 0 [((dd 0), cD dd K sm), ((dd 1), .inl (g.2.1, 32, .inl (G 1))), ((dd 2), .inl (g.2.1, 48, .inl (G 2))), ((dd 3), .inl (g.2.1, 4, .inl (G 3))), ((dd 4), .inl (g.2.1, 4, .inl (G 4))), ((dd 5), .inl (g.2.1, 4, .inl (G 5))), ((dd 6), .inl (g.2.1, 4, .inl (G 6))), ((dd 7), .inl (g.2.1, 4, .inl (G 7))), ((dd 8), .inl (g.2.1, 4, .inl (G 8))), ((dd 9), .inl (g.2.1, 4, .inl (G 9))), ((dd 10), .inl (g.2.1, 4, .inl (G 10))), ((dd 11), .inl (g.2.1, 4, .inl (G 11))), ((dd 12), .inl (g.2.1, 4, .inl (upd (G 12) 0 x_16))), ((dd 13), .inl (g.2.1, 4, .inl (G 13))), ((dd 14), .inl (g.2.1, 200, .inl u14)), ((dd 15), .inl (g.2.1, 3, .inl (G 15))), ((dd 16), .inl (g.2.1, 72, .inl (G 16))), ((dd 17), .inl (g.2.1, 64, .inl u17))] rfl (by decide) (vpc rfl) rfl dX7_sample_267 ?_
    subst ex_16
    exact j_2 _ (by simp only [d_dc, if_neg c_1])

set_option maxHeartbeats 4000000 in
set_option maxRecDepth 100000 in
theorem m_X7_sample (l : Launch) (hst : l.stackTraces = false) (g : gG) (dd : Nat → Nat) (di : Nat → Int32) (sm : Int64) (da : Nat → Nat → Int32) (hP : dP da di) : gMi l yX7_sample cX7_sample 5 .int 3 73 4 48 g [((dd 0), cD dd di sm), ((dd 1), .inl (g.2.1, 32, .inl (da 1))), ((dd 2), .inl (g.2.1, 48, .inl (da 2))), ((dd 3), .inl (g.2.1, 4, .inl (da 3))), ((dd 4), .inl (g.2.1, 4, .inl (da 4))), ((dd 5), .inl (g.2.1, 4, .inl (da 5))), ((dd 6), .inl (g.2.1, 4, .inl (da 6))), ((dd 7), .inl (g.2.1, 4, .inl (da 7))), ((dd 8), .inl (g.2.1, 4, .inl (da 8))), ((dd 9), .inl (g.2.1, 4, .inl (da 9))), ((dd 10), .inl (g.2.1, 4, .inl (da 10))), ((dd 11), .inl (g.2.1, 4, .inl (da 11))), ((dd 12), .inl (g.2.1, 4, .inl (da 12))), ((dd 13), .inl (g.2.1, 4, .inl (da 13))), ((dd 14), .inl (g.2.1, 200, .inl (da 14))), ((dd 15), .inl (g.2.1, 3, .inl (da 15))), ((dd 16), .inl (g.2.1, 72, .inl (da 16))), ((dd 17), .inl (g.2.1, 64, .inl (da 17)))] [.ref (dd 0)] (fun (r : Int32) (_ : Unit) => r = d_smR da di) (fun _ : Unit => [((dd 0), cD dd (d_smD da di) (sm + Int32.toInt64 (pab (d_smR da di)))), ((dd 1), .inl (g.2.1, 32, .inl ((d_smA da di) 1))), ((dd 2), .inl (g.2.1, 48, .inl ((d_smA da di) 2))), ((dd 3), .inl (g.2.1, 4, .inl ((d_smA da di) 3))), ((dd 4), .inl (g.2.1, 4, .inl ((d_smA da di) 4))), ((dd 5), .inl (g.2.1, 4, .inl ((d_smA da di) 5))), ((dd 6), .inl (g.2.1, 4, .inl ((d_smA da di) 6))), ((dd 7), .inl (g.2.1, 4, .inl ((d_smA da di) 7))), ((dd 8), .inl (g.2.1, 4, .inl ((d_smA da di) 8))), ((dd 9), .inl (g.2.1, 4, .inl ((d_smA da di) 9))), ((dd 10), .inl (g.2.1, 4, .inl ((d_smA da di) 10))), ((dd 11), .inl (g.2.1, 4, .inl ((d_smA da di) 11))), ((dd 12), .inl (g.2.1, 4, .inl ((d_smA da di) 12))), ((dd 13), .inl (g.2.1, 4, .inl ((d_smA da di) 13))), ((dd 14), .inl (g.2.1, 200, .inl ((d_smA da di) 14))), ((dd 15), .inl (g.2.1, 3, .inl ((d_smA da di) 15))), ((dd 16), .inl (g.2.1, 72, .inl ((d_smA da di) 16))), ((dd 17), .inl (g.2.1, 64, .inl ((d_smA da di) 17)))]) := by
  intro sz
  refine g_ent (by decide) hst [(0, .ref (dd 0))] (Nat.le_of_ble_eq_true rfl) rfl ?_
  intro p e s m below meth c B hr hnm hsz
  have B : gB p l s m ([.ref (dd 0)] : List Value).toArray meth c RX7 cX7_sample 5 g (va_A [((dd 0), cD dd di sm), ((dd 1), .inl (g.2.1, 32, .inl (da 1))), ((dd 2), .inl (g.2.1, 48, .inl (da 2))), ((dd 3), .inl (g.2.1, 4, .inl (da 3))), ((dd 4), .inl (g.2.1, 4, .inl (da 4))), ((dd 5), .inl (g.2.1, 4, .inl (da 5))), ((dd 6), .inl (g.2.1, 4, .inl (da 6))), ((dd 7), .inl (g.2.1, 4, .inl (da 7))), ((dd 8), .inl (g.2.1, 4, .inl (da 8))), ((dd 9), .inl (g.2.1, 4, .inl (da 9))), ((dd 10), .inl (g.2.1, 4, .inl (da 10))), ((dd 11), .inl (g.2.1, 4, .inl (da 11))), ((dd 12), .inl (g.2.1, 4, .inl (da 12))), ((dd 13), .inl (g.2.1, 4, .inl (da 13))), ((dd 14), .inl (g.2.1, 200, .inl (da 14))), ((dd 15), .inl (g.2.1, 3, .inl (da 15))), ((dd 16), .inl (g.2.1, 72, .inl (da 16))), ((dd 17), .inl (g.2.1, 64, .inl (da 17)))] sz) := B
  refine g_aload_n B 0 0 dX7_sample_0 rfl rfl ?_
  refine g_cV_v (C := RX7) (T := TX7) (N := 35) (As := []) B (m_X7_goOnTracks l hst g dd di sm da hP.1) 6 0 rfl rfl [0, 3, 4, 5, 6, 7, 8, 9, 10, 11, 12, 13, 15, 16] [] (lw_V q1192 q1194 qs19 q39 q1195) nvX7_goOnTracks rfl rfl (fun _ => rfl) rfl rfl (Nat.le_of_ble_eq_true rfl) dX7_sample_1 ⟨Nat.le_of_ble_eq_true rfl, Nat.le_of_ble_eq_true rfl⟩ ⟨Nat.le_of_ble_eq_true rfl, Nat.le_of_ble_eq_true rfl⟩ (fun ur_1 hr_1 => ?_)
  refine g_eqw (ws' := [((dd 0), cD dd ((d_gt da di).2) sm), ((dd 1), .inl (g.2.1, 32, .inl (da 1))), ((dd 2), .inl (g.2.1, 48, .inl (da 2))), ((dd 3), .inl (g.2.1, 4, .inl ((d_gt da di).1 3))), ((dd 4), .inl (g.2.1, 4, .inl ((d_gt da di).1 4))), ((dd 5), .inl (g.2.1, 4, .inl ((d_gt da di).1 5))), ((dd 6), .inl (g.2.1, 4, .inl ((d_gt da di).1 6))), ((dd 7), .inl (g.2.1, 4, .inl ((d_gt da di).1 7))), ((dd 8), .inl (g.2.1, 4, .inl ((d_gt da di).1 8))), ((dd 9), .inl (g.2.1, 4, .inl ((d_gt da di).1 9))), ((dd 10), .inl (g.2.1, 4, .inl ((d_gt da di).1 10))), ((dd 11), .inl (g.2.1, 4, .inl ((d_gt da di).1 11))), ((dd 12), .inl (g.2.1, 4, .inl ((d_gt da di).1 12))), ((dd 13), .inl (g.2.1, 4, .inl ((d_gt da di).1 13))), ((dd 14), .inl (g.2.1, 200, .inl (da 14))), ((dd 15), .inl (g.2.1, 3, .inl ((d_gt da di).1 15))), ((dd 16), .inl (g.2.1, 72, .inl ((d_gt da di).1 16))), ((dd 17), .inl (g.2.1, 64, .inl (da 17)))]) rfl ?_
  refine g_eqw (ws' := [((dd 0), cD dd ((d_gt da di).2) sm), ((dd 1), .inl (g.2.1, 32, .inl ((d_gt da di).1 1))), ((dd 2), .inl (g.2.1, 48, .inl ((d_gt da di).1 2))), ((dd 3), .inl (g.2.1, 4, .inl ((d_gt da di).1 3))), ((dd 4), .inl (g.2.1, 4, .inl ((d_gt da di).1 4))), ((dd 5), .inl (g.2.1, 4, .inl ((d_gt da di).1 5))), ((dd 6), .inl (g.2.1, 4, .inl ((d_gt da di).1 6))), ((dd 7), .inl (g.2.1, 4, .inl ((d_gt da di).1 7))), ((dd 8), .inl (g.2.1, 4, .inl ((d_gt da di).1 8))), ((dd 9), .inl (g.2.1, 4, .inl ((d_gt da di).1 9))), ((dd 10), .inl (g.2.1, 4, .inl ((d_gt da di).1 10))), ((dd 11), .inl (g.2.1, 4, .inl ((d_gt da di).1 11))), ((dd 12), .inl (g.2.1, 4, .inl ((d_gt da di).1 12))), ((dd 13), .inl (g.2.1, 4, .inl ((d_gt da di).1 13))), ((dd 14), .inl (g.2.1, 200, .inl ((d_gt da di).1 14))), ((dd 15), .inl (g.2.1, 3, .inl ((d_gt da di).1 15))), ((dd 16), .inl (g.2.1, 72, .inl ((d_gt da di).1 16))), ((dd 17), .inl (g.2.1, 64, .inl ((d_gt da di).1 17)))]) (by rw [d_gt_o da di (k := 1) (by decide), d_gt_o da di (k := 2) (by decide), d_gt_o da di (k := 14) (by decide), d_gt_o da di (k := 17) (by decide)]) ?_
  obtain ⟨-, hV, hI, hc, hl⟩ := hP
  generalize hF : (d_gt da di).1 = F at hV hI ⊢
  generalize hJ : (d_gt da di).2 = J at hc hl ⊢
  refine g_iconst (v := 0) B dX7_sample_4 kc_0 ?_
  refine g_istore_n B 1 [(1, .int 0), (0, .ref (dd 0))] dX7_sample_5 rfl (Nat.le_of_ble_eq_true rfl) rfl ?_
  refine g_iconst (v := 0) B dX7_sample_6 kc_0 ?_
  refine g_istore_n B 2 [(2, .int 0), (1, .int 0), (0, .ref (dd 0))] dX7_sample_7 rfl (Nat.le_of_ble_eq_true rfl) rfl ?_
  refine g_iload_n B 2 0 dX7_sample_8 rfl rfl ?_
  refine g_iconst (v := 4) B dX7_sample_9 kc_4 ?_
  refine g_icmp_ge_F (tgt := 27) B dX7_sample_10 (by decide) (by decide) ?_
  refine g_iload_n B 1 1 dX7_sample_13 rfl rfl ?_
  refine g_aload_n B 0 2 dX7_sample_14 rfl rfl ?_
  refine g_iload_n B 2 0 dX7_sample_15 rfl rfl ?_
  refine g_cV_i (C := RX7) (T := TX7) (N := 35) (As := [.int 0]) B (m_X7_gives l hst g dd J sm F 0 (by decide) (hV 0 (by decide)) (dQ (hI) (hV 0 (by decide)).1) hc) 6 0 rfl rfl [0, 1, 2, 3, 4, 5, 6, 7, 8, 9, 10, 11] [.int 0] (lw_V q1198 q1200 qs20 q39 q1201) nvX7_gives rfl rfl (fun _ => rfl) rfl rfl (Nat.le_of_ble_eq_true rfl) dX7_sample_16 ⟨Nat.le_of_ble_eq_true rfl, Nat.le_of_ble_eq_true rfl⟩ ⟨Nat.le_of_ble_eq_true rfl, Nat.le_of_ble_eq_true rfl⟩ (fun r_2 ur_2 hr_2 => ?_)
  refine g_eqw (ws' := [((dd 0), cD dd J sm), ((dd 1), .inl (g.2.1, 32, .inl ((d_gv (J 12) F 0) 1))), ((dd 2), .inl (g.2.1, 48, .inl ((d_gv (J 12) F 0) 2))), ((dd 3), .inl (g.2.1, 4, .inl ((d_gv (J 12) F 0) 3))), ((dd 4), .inl (g.2.1, 4, .inl ((d_gv (J 12) F 0) 4))), ((dd 5), .inl (g.2.1, 4, .inl ((d_gv (J 12) F 0) 5))), ((dd 6), .inl (g.2.1, 4, .inl ((d_gv (J 12) F 0) 6))), ((dd 7), .inl (g.2.1, 4, .inl ((d_gv (J 12) F 0) 7))), ((dd 8), .inl (g.2.1, 4, .inl ((d_gv (J 12) F 0) 8))), ((dd 9), .inl (g.2.1, 4, .inl ((d_gv (J 12) F 0) 9))), ((dd 10), .inl (g.2.1, 4, .inl ((d_gv (J 12) F 0) 10))), ((dd 11), .inl (g.2.1, 4, .inl ((d_gv (J 12) F 0) 11))), ((dd 12), .inl (g.2.1, 4, .inl (F 12))), ((dd 13), .inl (g.2.1, 4, .inl (F 13))), ((dd 14), .inl (g.2.1, 200, .inl (F 14))), ((dd 15), .inl (g.2.1, 3, .inl (F 15))), ((dd 16), .inl (g.2.1, 72, .inl (F 16))), ((dd 17), .inl (g.2.1, 64, .inl (F 17)))]) rfl ?_
  have hr_2 : r_2 = d_gr F 0 := hr_2
  refine g_iadd B dX7_sample_19 ?_
  refine g_istore_n B 1 [(1, .int (0 + r_2)), (2, .int 0), (0, .ref (dd 0))] dX7_sample_20 rfl (Nat.le_of_ble_eq_true rfl) rfl ?_
  refine g_iinc B 1 1 [(2, .int 1), (1, .int (0 + r_2)), (0, .ref (dd 0))] dX7_sample_21 rfl (by decide) (Nat.le_of_ble_eq_true rfl) rfl ?_
  refine g_goto (tgt := 8) B dX7_sample_24 (by decide) ?_
  refine g_iload_n B 2 0 dX7_sample_8 rfl rfl ?_
  refine g_iconst (v := 4) B dX7_sample_9 kc_4 ?_
  refine g_icmp_ge_F (tgt := 27) B dX7_sample_10 (by decide) (by decide) ?_
  refine g_iload_n B 1 1 dX7_sample_13 rfl rfl ?_
  refine g_aload_n B 0 2 dX7_sample_14 rfl rfl ?_
  refine g_iload_n B 2 0 dX7_sample_15 rfl rfl ?_
  refine g_cV_i (C := RX7) (T := TX7) (N := 35) (As := [.int 1]) B (m_X7_gives l hst g dd J sm (d_gv (J 12) F 0) 1 (by decide) (dV_gv (by decide) (hV 1 (by decide))) (dQ (dI_gv (hI)) (dV_gv (by decide) (hV 1 (by decide))).1) hc) 6 0 rfl rfl [0, 1, 2, 3, 4, 5, 6, 7, 8, 9, 10, 11] [.int (0 + r_2)] (lw_V q1198 q1200 qs20 q39 q1201) nvX7_gives rfl rfl (fun _ => rfl) rfl rfl (Nat.le_of_ble_eq_true rfl) dX7_sample_16 ⟨Nat.le_of_ble_eq_true rfl, Nat.le_of_ble_eq_true rfl⟩ ⟨Nat.le_of_ble_eq_true rfl, Nat.le_of_ble_eq_true rfl⟩ (fun r_3 ur_3 hr_3 => ?_)
  refine g_eqw (ws' := [((dd 0), cD dd J sm), ((dd 1), .inl (g.2.1, 32, .inl ((d_gv (J 12) (d_gv (J 12) F 0) 1) 1))), ((dd 2), .inl (g.2.1, 48, .inl ((d_gv (J 12) (d_gv (J 12) F 0) 1) 2))), ((dd 3), .inl (g.2.1, 4, .inl ((d_gv (J 12) (d_gv (J 12) F 0) 1) 3))), ((dd 4), .inl (g.2.1, 4, .inl ((d_gv (J 12) (d_gv (J 12) F 0) 1) 4))), ((dd 5), .inl (g.2.1, 4, .inl ((d_gv (J 12) (d_gv (J 12) F 0) 1) 5))), ((dd 6), .inl (g.2.1, 4, .inl ((d_gv (J 12) (d_gv (J 12) F 0) 1) 6))), ((dd 7), .inl (g.2.1, 4, .inl ((d_gv (J 12) (d_gv (J 12) F 0) 1) 7))), ((dd 8), .inl (g.2.1, 4, .inl ((d_gv (J 12) (d_gv (J 12) F 0) 1) 8))), ((dd 9), .inl (g.2.1, 4, .inl ((d_gv (J 12) (d_gv (J 12) F 0) 1) 9))), ((dd 10), .inl (g.2.1, 4, .inl ((d_gv (J 12) (d_gv (J 12) F 0) 1) 10))), ((dd 11), .inl (g.2.1, 4, .inl ((d_gv (J 12) (d_gv (J 12) F 0) 1) 11))), ((dd 12), .inl (g.2.1, 4, .inl (F 12))), ((dd 13), .inl (g.2.1, 4, .inl (F 13))), ((dd 14), .inl (g.2.1, 200, .inl (F 14))), ((dd 15), .inl (g.2.1, 3, .inl (F 15))), ((dd 16), .inl (g.2.1, 72, .inl (F 16))), ((dd 17), .inl (g.2.1, 64, .inl (F 17)))]) rfl ?_
  have hr_3 : r_3 = d_gr (d_gv (J 12) F 0) 1 := hr_3
  refine g_iadd B dX7_sample_19 ?_
  refine g_topi (fun x_4 ex_4 => ?_)
  refine g_istore_n B 1 [(1, .int x_4), (2, .int 1), (0, .ref (dd 0))] dX7_sample_20 rfl (Nat.le_of_ble_eq_true rfl) rfl ?_
  refine g_iinc B 1 2 [(2, .int 2), (1, .int x_4), (0, .ref (dd 0))] dX7_sample_21 rfl (by decide) (Nat.le_of_ble_eq_true rfl) rfl ?_
  refine g_goto (tgt := 8) B dX7_sample_24 (by decide) ?_
  refine g_iload_n B 2 0 dX7_sample_8 rfl rfl ?_
  refine g_iconst (v := 4) B dX7_sample_9 kc_4 ?_
  refine g_icmp_ge_F (tgt := 27) B dX7_sample_10 (by decide) (by decide) ?_
  refine g_iload_n B 1 1 dX7_sample_13 rfl rfl ?_
  refine g_aload_n B 0 2 dX7_sample_14 rfl rfl ?_
  refine g_iload_n B 2 0 dX7_sample_15 rfl rfl ?_
  refine g_cV_i (C := RX7) (T := TX7) (N := 35) (As := [.int 2]) B (m_X7_gives l hst g dd J sm (d_gv (J 12) (d_gv (J 12) F 0) 1) 2 (by decide) (dV_gv (by decide) (dV_gv (by decide) (hV 2 (by decide)))) (dQ (dI_gv (dI_gv (hI))) (dV_gv (by decide) (dV_gv (by decide) (hV 2 (by decide)))).1) hc) 6 0 rfl rfl [0, 1, 2, 3, 4, 5, 6, 7, 8, 9, 10, 11] [.int x_4] (lw_V q1198 q1200 qs20 q39 q1201) nvX7_gives rfl rfl (fun _ => rfl) rfl rfl (Nat.le_of_ble_eq_true rfl) dX7_sample_16 ⟨Nat.le_of_ble_eq_true rfl, Nat.le_of_ble_eq_true rfl⟩ ⟨Nat.le_of_ble_eq_true rfl, Nat.le_of_ble_eq_true rfl⟩ (fun r_5 ur_5 hr_5 => ?_)
  refine g_eqw (ws' := [((dd 0), cD dd J sm), ((dd 1), .inl (g.2.1, 32, .inl ((d_gv (J 12) (d_gv (J 12) (d_gv (J 12) F 0) 1) 2) 1))), ((dd 2), .inl (g.2.1, 48, .inl ((d_gv (J 12) (d_gv (J 12) (d_gv (J 12) F 0) 1) 2) 2))), ((dd 3), .inl (g.2.1, 4, .inl ((d_gv (J 12) (d_gv (J 12) (d_gv (J 12) F 0) 1) 2) 3))), ((dd 4), .inl (g.2.1, 4, .inl ((d_gv (J 12) (d_gv (J 12) (d_gv (J 12) F 0) 1) 2) 4))), ((dd 5), .inl (g.2.1, 4, .inl ((d_gv (J 12) (d_gv (J 12) (d_gv (J 12) F 0) 1) 2) 5))), ((dd 6), .inl (g.2.1, 4, .inl ((d_gv (J 12) (d_gv (J 12) (d_gv (J 12) F 0) 1) 2) 6))), ((dd 7), .inl (g.2.1, 4, .inl ((d_gv (J 12) (d_gv (J 12) (d_gv (J 12) F 0) 1) 2) 7))), ((dd 8), .inl (g.2.1, 4, .inl ((d_gv (J 12) (d_gv (J 12) (d_gv (J 12) F 0) 1) 2) 8))), ((dd 9), .inl (g.2.1, 4, .inl ((d_gv (J 12) (d_gv (J 12) (d_gv (J 12) F 0) 1) 2) 9))), ((dd 10), .inl (g.2.1, 4, .inl ((d_gv (J 12) (d_gv (J 12) (d_gv (J 12) F 0) 1) 2) 10))), ((dd 11), .inl (g.2.1, 4, .inl ((d_gv (J 12) (d_gv (J 12) (d_gv (J 12) F 0) 1) 2) 11))), ((dd 12), .inl (g.2.1, 4, .inl (F 12))), ((dd 13), .inl (g.2.1, 4, .inl (F 13))), ((dd 14), .inl (g.2.1, 200, .inl (F 14))), ((dd 15), .inl (g.2.1, 3, .inl (F 15))), ((dd 16), .inl (g.2.1, 72, .inl (F 16))), ((dd 17), .inl (g.2.1, 64, .inl (F 17)))]) rfl ?_
  have hr_5 : r_5 = d_gr (d_gv (J 12) (d_gv (J 12) F 0) 1) 2 := hr_5
  refine g_iadd B dX7_sample_19 ?_
  refine g_istore_n B 1 [(1, .int (x_4 + r_5)), (2, .int 2), (0, .ref (dd 0))] dX7_sample_20 rfl (Nat.le_of_ble_eq_true rfl) rfl ?_
  refine g_iinc B 1 3 [(2, .int 3), (1, .int (x_4 + r_5)), (0, .ref (dd 0))] dX7_sample_21 rfl (by decide) (Nat.le_of_ble_eq_true rfl) rfl ?_
  refine g_goto (tgt := 8) B dX7_sample_24 (by decide) ?_
  refine g_iload_n B 2 0 dX7_sample_8 rfl rfl ?_
  refine g_iconst (v := 4) B dX7_sample_9 kc_4 ?_
  refine g_icmp_ge_F (tgt := 27) B dX7_sample_10 (by decide) (by decide) ?_
  refine g_iload_n B 1 1 dX7_sample_13 rfl rfl ?_
  refine g_aload_n B 0 2 dX7_sample_14 rfl rfl ?_
  refine g_iload_n B 2 0 dX7_sample_15 rfl rfl ?_
  refine g_cV_i (C := RX7) (T := TX7) (N := 35) (As := [.int 3]) B (m_X7_gives l hst g dd J sm (d_gv (J 12) (d_gv (J 12) (d_gv (J 12) F 0) 1) 2) 3 (by decide) (dV_gv (by decide) (dV_gv (by decide) (dV_gv (by decide) (hV 3 (by decide))))) (dQ (dI_gv (dI_gv (dI_gv (hI)))) (dV_gv (by decide) (dV_gv (by decide) (dV_gv (by decide) (hV 3 (by decide))))).1) hc) 6 0 rfl rfl [0, 1, 2, 3, 4, 5, 6, 7, 8, 9, 10, 11] [.int (x_4 + r_5)] (lw_V q1198 q1200 qs20 q39 q1201) nvX7_gives rfl rfl (fun _ => rfl) rfl rfl (Nat.le_of_ble_eq_true rfl) dX7_sample_16 ⟨Nat.le_of_ble_eq_true rfl, Nat.le_of_ble_eq_true rfl⟩ ⟨Nat.le_of_ble_eq_true rfl, Nat.le_of_ble_eq_true rfl⟩ (fun r_6 ur_6 hr_6 => ?_)
  refine g_eqw (ws' := [((dd 0), cD dd J sm), ((dd 1), .inl (g.2.1, 32, .inl ((d_gv (J 12) (d_gv (J 12) (d_gv (J 12) (d_gv (J 12) F 0) 1) 2) 3) 1))), ((dd 2), .inl (g.2.1, 48, .inl ((d_gv (J 12) (d_gv (J 12) (d_gv (J 12) (d_gv (J 12) F 0) 1) 2) 3) 2))), ((dd 3), .inl (g.2.1, 4, .inl ((d_gv (J 12) (d_gv (J 12) (d_gv (J 12) (d_gv (J 12) F 0) 1) 2) 3) 3))), ((dd 4), .inl (g.2.1, 4, .inl ((d_gv (J 12) (d_gv (J 12) (d_gv (J 12) (d_gv (J 12) F 0) 1) 2) 3) 4))), ((dd 5), .inl (g.2.1, 4, .inl ((d_gv (J 12) (d_gv (J 12) (d_gv (J 12) (d_gv (J 12) F 0) 1) 2) 3) 5))), ((dd 6), .inl (g.2.1, 4, .inl ((d_gv (J 12) (d_gv (J 12) (d_gv (J 12) (d_gv (J 12) F 0) 1) 2) 3) 6))), ((dd 7), .inl (g.2.1, 4, .inl ((d_gv (J 12) (d_gv (J 12) (d_gv (J 12) (d_gv (J 12) F 0) 1) 2) 3) 7))), ((dd 8), .inl (g.2.1, 4, .inl ((d_gv (J 12) (d_gv (J 12) (d_gv (J 12) (d_gv (J 12) F 0) 1) 2) 3) 8))), ((dd 9), .inl (g.2.1, 4, .inl ((d_gv (J 12) (d_gv (J 12) (d_gv (J 12) (d_gv (J 12) F 0) 1) 2) 3) 9))), ((dd 10), .inl (g.2.1, 4, .inl ((d_gv (J 12) (d_gv (J 12) (d_gv (J 12) (d_gv (J 12) F 0) 1) 2) 3) 10))), ((dd 11), .inl (g.2.1, 4, .inl ((d_gv (J 12) (d_gv (J 12) (d_gv (J 12) (d_gv (J 12) F 0) 1) 2) 3) 11))), ((dd 12), .inl (g.2.1, 4, .inl (F 12))), ((dd 13), .inl (g.2.1, 4, .inl (F 13))), ((dd 14), .inl (g.2.1, 200, .inl (F 14))), ((dd 15), .inl (g.2.1, 3, .inl (F 15))), ((dd 16), .inl (g.2.1, 72, .inl (F 16))), ((dd 17), .inl (g.2.1, 64, .inl (F 17)))]) rfl ?_
  have hr_6 : r_6 = d_gr (d_gv (J 12) (d_gv (J 12) (d_gv (J 12) F 0) 1) 2) 3 := hr_6
  refine g_iadd B dX7_sample_19 ?_
  refine g_topi (fun x_7 ex_7 => ?_)
  refine g_istore_n B 1 [(1, .int x_7), (2, .int 3), (0, .ref (dd 0))] dX7_sample_20 rfl (Nat.le_of_ble_eq_true rfl) rfl ?_
  refine g_iinc B 1 4 [(2, .int 4), (1, .int x_7), (0, .ref (dd 0))] dX7_sample_21 rfl (by decide) (Nat.le_of_ble_eq_true rfl) rfl ?_
  refine g_goto (tgt := 8) B dX7_sample_24 (by decide) ?_
  refine g_iload_n B 2 0 dX7_sample_8 rfl rfl ?_
  refine g_iconst (v := 4) B dX7_sample_9 kc_4 ?_
  refine g_icmp_ge_T (tgt := 27) B dX7_sample_10 (by decide) (by decide) ?_
  refine g_eqw (ws' := [((dd 0), cD dd J sm), ((dd 1), .inl (g.2.1, 32, .inl ((d_4 (J 12) F) 1))), ((dd 2), .inl (g.2.1, 48, .inl ((d_4 (J 12) F) 2))), ((dd 3), .inl (g.2.1, 4, .inl ((d_4 (J 12) F) 3))), ((dd 4), .inl (g.2.1, 4, .inl ((d_4 (J 12) F) 4))), ((dd 5), .inl (g.2.1, 4, .inl ((d_4 (J 12) F) 5))), ((dd 6), .inl (g.2.1, 4, .inl ((d_4 (J 12) F) 6))), ((dd 7), .inl (g.2.1, 4, .inl ((d_4 (J 12) F) 7))), ((dd 8), .inl (g.2.1, 4, .inl ((d_4 (J 12) F) 8))), ((dd 9), .inl (g.2.1, 4, .inl ((d_4 (J 12) F) 9))), ((dd 10), .inl (g.2.1, 4, .inl ((d_4 (J 12) F) 10))), ((dd 11), .inl (g.2.1, 4, .inl ((d_4 (J 12) F) 11))), ((dd 12), .inl (g.2.1, 4, .inl ((d_4 (J 12) F) 12))), ((dd 13), .inl (g.2.1, 4, .inl ((d_4 (J 12) F) 13))), ((dd 14), .inl (g.2.1, 200, .inl ((d_4 (J 12) F) 14))), ((dd 15), .inl (g.2.1, 3, .inl ((d_4 (J 12) F) 15))), ((dd 16), .inl (g.2.1, 72, .inl ((d_4 (J 12) F) 16))), ((dd 17), .inl (g.2.1, 64, .inl ((d_4 (J 12) F) 17)))]) (by rw [d_4_o (J 12) F (k := 12) (by decide), d_4_o (J 12) F (k := 13) (by decide), d_4_o (J 12) F (k := 14) (by decide), d_4_o (J 12) F (k := 15) (by decide), d_4_o (J 12) F (k := 16) (by decide), d_4_o (J 12) F (k := 17) (by decide)] <;> rfl) ?_
  generalize hG : d_4 (J 12) F = G
  refine g_iload_n B 1 1 dX7_sample_27 rfl rfl ?_
  refine g_aload_n B 0 2 dX7_sample_28 rfl rfl ?_
  refine g_get (C := RX7) (T := TX7) (N := 35) B 6 0 15 (.int (J 2)) in_X7 rfl q938 rfl (Nat.le_of_ble_eq_true rfl) (fun _ h9 => h9) rfl dX7_sample_29 ?_
  refine g_imul B dX7_sample_32 ?_
  refine g_bipush (v := 16) B dX7_sample_33 kb_16 ?_
  refine g_idiv B dX7_sample_35 (by decide) ?_
  refine g_topi (fun x_8 ex_8 => ?_)
  refine g_istore_n B 1 [(1, .int x_8), (2, .int 4), (0, .ref (dd 0))] dX7_sample_36 rfl (Nat.le_of_ble_eq_true rfl) rfl ?_
  refine g_iload_n B 1 0 dX7_sample_37 rfl rfl ?_
  refine g_istore_n B 2 [(2, .int x_8), (1, .int x_8), (0, .ref (dd 0))] dX7_sample_38 rfl (Nat.le_of_ble_eq_true rfl) rfl ?_
  refine g_aload_n B 0 2 dX7_sample_39 rfl rfl ?_
  refine g_get (C := RX7) (T := TX7) (N := 35) B 6 0 16 (.int (J 3)) in_X7 rfl q940 rfl (Nat.le_of_ble_eq_true rfl) (fun _ h9 => h9) rfl dX7_sample_40 ?_
  have j_10 : ∀ (x_11 : Int32), x_11 = d_its J x_8 (G 14) → gW p l e (gRm 3 73 4 48) s m ([.ref (dd 0)] : List Value).toArray below meth c (MQ below (va_Qi (fun (r : Int32) (_ : Unit) => r = d_smR da di) (fun u t => gE g (va_A [((dd 0), cD dd di sm), ((dd 1), .inl (g.2.1, 32, .inl (da 1))), ((dd 2), .inl (g.2.1, 48, .inl (da 2))), ((dd 3), .inl (g.2.1, 4, .inl (da 3))), ((dd 4), .inl (g.2.1, 4, .inl (da 4))), ((dd 5), .inl (g.2.1, 4, .inl (da 5))), ((dd 6), .inl (g.2.1, 4, .inl (da 6))), ((dd 7), .inl (g.2.1, 4, .inl (da 7))), ((dd 8), .inl (g.2.1, 4, .inl (da 8))), ((dd 9), .inl (g.2.1, 4, .inl (da 9))), ((dd 10), .inl (g.2.1, 4, .inl (da 10))), ((dd 11), .inl (g.2.1, 4, .inl (da 11))), ((dd 12), .inl (g.2.1, 4, .inl (da 12))), ((dd 13), .inl (g.2.1, 4, .inl (da 13))), ((dd 14), .inl (g.2.1, 200, .inl (da 14))), ((dd 15), .inl (g.2.1, 3, .inl (da 15))), ((dd 16), .inl (g.2.1, 72, .inl (da 16))), ((dd 17), .inl (g.2.1, 64, .inl (da 17)))] sz) ((fun _ : Unit => [((dd 0), cD dd (d_smD da di) (sm + Int32.toInt64 (pab (d_smR da di)))), ((dd 1), .inl (g.2.1, 32, .inl ((d_smA da di) 1))), ((dd 2), .inl (g.2.1, 48, .inl ((d_smA da di) 2))), ((dd 3), .inl (g.2.1, 4, .inl ((d_smA da di) 3))), ((dd 4), .inl (g.2.1, 4, .inl ((d_smA da di) 4))), ((dd 5), .inl (g.2.1, 4, .inl ((d_smA da di) 5))), ((dd 6), .inl (g.2.1, 4, .inl ((d_smA da di) 6))), ((dd 7), .inl (g.2.1, 4, .inl ((d_smA da di) 7))), ((dd 8), .inl (g.2.1, 4, .inl ((d_smA da di) 8))), ((dd 9), .inl (g.2.1, 4, .inl ((d_smA da di) 9))), ((dd 10), .inl (g.2.1, 4, .inl ((d_smA da di) 10))), ((dd 11), .inl (g.2.1, 4, .inl ((d_smA da di) 11))), ((dd 12), .inl (g.2.1, 4, .inl ((d_smA da di) 12))), ((dd 13), .inl (g.2.1, 4, .inl ((d_smA da di) 13))), ((dd 14), .inl (g.2.1, 200, .inl ((d_smA da di) 14))), ((dd 15), .inl (g.2.1, 3, .inl ((d_smA da di) 15))), ((dd 16), .inl (g.2.1, 72, .inl ((d_smA da di) 16))), ((dd 17), .inl (g.2.1, 64, .inl ((d_smA da di) 17)))]) u) t) (va_A [((dd 0), cD dd di sm), ((dd 1), .inl (g.2.1, 32, .inl (da 1))), ((dd 2), .inl (g.2.1, 48, .inl (da 2))), ((dd 3), .inl (g.2.1, 4, .inl (da 3))), ((dd 4), .inl (g.2.1, 4, .inl (da 4))), ((dd 5), .inl (g.2.1, 4, .inl (da 5))), ((dd 6), .inl (g.2.1, 4, .inl (da 6))), ((dd 7), .inl (g.2.1, 4, .inl (da 7))), ((dd 8), .inl (g.2.1, 4, .inl (da 8))), ((dd 9), .inl (g.2.1, 4, .inl (da 9))), ((dd 10), .inl (g.2.1, 4, .inl (da 10))), ((dd 11), .inl (g.2.1, 4, .inl (da 11))), ((dd 12), .inl (g.2.1, 4, .inl (da 12))), ((dd 13), .inl (g.2.1, 4, .inl (da 13))), ((dd 14), .inl (g.2.1, 200, .inl (da 14))), ((dd 15), .inl (g.2.1, 3, .inl (da 15))), ((dd 16), .inl (g.2.1, 72, .inl (da 16))), ((dd 17), .inl (g.2.1, 64, .inl (da 17)))] sz)) ([.ref (dd 0)] : List Value).toArray s 4 48 (va_A [((dd 0), cD dd di sm), ((dd 1), .inl (g.2.1, 32, .inl (da 1))), ((dd 2), .inl (g.2.1, 48, .inl (da 2))), ((dd 3), .inl (g.2.1, 4, .inl (da 3))), ((dd 4), .inl (g.2.1, 4, .inl (da 4))), ((dd 5), .inl (g.2.1, 4, .inl (da 5))), ((dd 6), .inl (g.2.1, 4, .inl (da 6))), ((dd 7), .inl (g.2.1, 4, .inl (da 7))), ((dd 8), .inl (g.2.1, 4, .inl (da 8))), ((dd 9), .inl (g.2.1, 4, .inl (da 9))), ((dd 10), .inl (g.2.1, 4, .inl (da 10))), ((dd 11), .inl (g.2.1, 4, .inl (da 11))), ((dd 12), .inl (g.2.1, 4, .inl (da 12))), ((dd 13), .inl (g.2.1, 4, .inl (da 13))), ((dd 14), .inl (g.2.1, 200, .inl (da 14))), ((dd 15), .inl (g.2.1, 3, .inl (da 15))), ((dd 16), .inl (g.2.1, 72, .inl (da 16))), ((dd 17), .inl (g.2.1, 64, .inl (da 17)))] sz)) 5 g (va_A [((dd 0), cD dd di sm), ((dd 1), .inl (g.2.1, 32, .inl (da 1))), ((dd 2), .inl (g.2.1, 48, .inl (da 2))), ((dd 3), .inl (g.2.1, 4, .inl (da 3))), ((dd 4), .inl (g.2.1, 4, .inl (da 4))), ((dd 5), .inl (g.2.1, 4, .inl (da 5))), ((dd 6), .inl (g.2.1, 4, .inl (da 6))), ((dd 7), .inl (g.2.1, 4, .inl (da 7))), ((dd 8), .inl (g.2.1, 4, .inl (da 8))), ((dd 9), .inl (g.2.1, 4, .inl (da 9))), ((dd 10), .inl (g.2.1, 4, .inl (da 10))), ((dd 11), .inl (g.2.1, 4, .inl (da 11))), ((dd 12), .inl (g.2.1, 4, .inl (da 12))), ((dd 13), .inl (g.2.1, 4, .inl (da 13))), ((dd 14), .inl (g.2.1, 200, .inl (da 14))), ((dd 15), .inl (g.2.1, 3, .inl (da 15))), ((dd 16), .inl (g.2.1, 72, .inl (da 16))), ((dd 17), .inl (g.2.1, 64, .inl (da 17)))] sz) [((dd 0), cD dd J sm), ((dd 1), .inl (g.2.1, 32, .inl (G 1))), ((dd 2), .inl (g.2.1, 48, .inl (G 2))), ((dd 3), .inl (g.2.1, 4, .inl (G 3))), ((dd 4), .inl (g.2.1, 4, .inl (G 4))), ((dd 5), .inl (g.2.1, 4, .inl (G 5))), ((dd 6), .inl (g.2.1, 4, .inl (G 6))), ((dd 7), .inl (g.2.1, 4, .inl (G 7))), ((dd 8), .inl (g.2.1, 4, .inl (G 8))), ((dd 9), .inl (g.2.1, 4, .inl (G 9))), ((dd 10), .inl (g.2.1, 4, .inl (G 10))), ((dd 11), .inl (g.2.1, 4, .inl (G 11))), ((dd 12), .inl (g.2.1, 4, .inl (G 12))), ((dd 13), .inl (g.2.1, 4, .inl (G 13))), ((dd 14), .inl (g.2.1, 200, .inl (d_dl J x_8 (G 14)))), ((dd 15), .inl (g.2.1, 3, .inl (G 15))), ((dd 16), .inl (g.2.1, 72, .inl (G 16))), ((dd 17), .inl (g.2.1, 64, .inl (G 17)))] [(2, .int x_11), (1, .int x_8), (0, .ref (dd 0))] [] 113 4 48 := by
    intro x_11 ex_11
    refine g_iload_n B 2 0 dX7_sample_113 rfl rfl ?_
    refine g_sipush (v := 32767) B dX7_sample_114 ks_32767 ?_
    refine g_cuSN_i (As := [.int x_11, .int 32767]) B (m_X6_keep l hst g x_11 32767) [] [] (lw_meth q1218) q1216 q38 q1217 nsX6_keep rfl rfl rfl rfl (Nat.le_of_ble_eq_true rfl) dX7_sample_117 ⟨Nat.le_of_ble_eq_true rfl, Nat.le_of_ble_eq_true rfl⟩ ⟨Nat.le_of_ble_eq_true rfl, Nat.le_of_ble_eq_true rfl⟩ (fun r_12 ur_12 hr_12 => ?_)
    have hr_12 : r_12 = pkp x_11 32767 := hr_12
    refine g_istore_n B 3 [(3, .int r_12), (2, .int x_11), (1, .int x_8), (0, .ref (dd 0))] dX7_sample_120 rfl (Nat.le_of_ble_eq_true rfl) rfl ?_
    refine g_aload_n B 0 3 dX7_sample_121 rfl rfl ?_
    refine g_dup B dX7_sample_122 rfl ?_
    refine g_get (C := RX7) (T := TX7) (N := 35) B 6 0 32 (.int (J 15)) in_X7 rfl q971 rfl (Nat.le_of_ble_eq_true rfl) (fun _ h9 => h9) rfl dX7_sample_123 ?_
    refine g_iload_n B 3 0 dX7_sample_126 rfl rfl ?_
    refine g_iload_n B 2 1 dX7_sample_127 rfl rfl ?_
    have j_14 : ∀ (x_15 : Int32), x_15 = d_cl r_12 x_11 → gW p l e (gRm 3 73 4 48) s m ([.ref (dd 0)] : List Value).toArray below meth c (MQ below (va_Qi (fun (r : Int32) (_ : Unit) => r = d_smR da di) (fun u t => gE g (va_A [((dd 0), cD dd di sm), ((dd 1), .inl (g.2.1, 32, .inl (da 1))), ((dd 2), .inl (g.2.1, 48, .inl (da 2))), ((dd 3), .inl (g.2.1, 4, .inl (da 3))), ((dd 4), .inl (g.2.1, 4, .inl (da 4))), ((dd 5), .inl (g.2.1, 4, .inl (da 5))), ((dd 6), .inl (g.2.1, 4, .inl (da 6))), ((dd 7), .inl (g.2.1, 4, .inl (da 7))), ((dd 8), .inl (g.2.1, 4, .inl (da 8))), ((dd 9), .inl (g.2.1, 4, .inl (da 9))), ((dd 10), .inl (g.2.1, 4, .inl (da 10))), ((dd 11), .inl (g.2.1, 4, .inl (da 11))), ((dd 12), .inl (g.2.1, 4, .inl (da 12))), ((dd 13), .inl (g.2.1, 4, .inl (da 13))), ((dd 14), .inl (g.2.1, 200, .inl (da 14))), ((dd 15), .inl (g.2.1, 3, .inl (da 15))), ((dd 16), .inl (g.2.1, 72, .inl (da 16))), ((dd 17), .inl (g.2.1, 64, .inl (da 17)))] sz) ((fun _ : Unit => [((dd 0), cD dd (d_smD da di) (sm + Int32.toInt64 (pab (d_smR da di)))), ((dd 1), .inl (g.2.1, 32, .inl ((d_smA da di) 1))), ((dd 2), .inl (g.2.1, 48, .inl ((d_smA da di) 2))), ((dd 3), .inl (g.2.1, 4, .inl ((d_smA da di) 3))), ((dd 4), .inl (g.2.1, 4, .inl ((d_smA da di) 4))), ((dd 5), .inl (g.2.1, 4, .inl ((d_smA da di) 5))), ((dd 6), .inl (g.2.1, 4, .inl ((d_smA da di) 6))), ((dd 7), .inl (g.2.1, 4, .inl ((d_smA da di) 7))), ((dd 8), .inl (g.2.1, 4, .inl ((d_smA da di) 8))), ((dd 9), .inl (g.2.1, 4, .inl ((d_smA da di) 9))), ((dd 10), .inl (g.2.1, 4, .inl ((d_smA da di) 10))), ((dd 11), .inl (g.2.1, 4, .inl ((d_smA da di) 11))), ((dd 12), .inl (g.2.1, 4, .inl ((d_smA da di) 12))), ((dd 13), .inl (g.2.1, 4, .inl ((d_smA da di) 13))), ((dd 14), .inl (g.2.1, 200, .inl ((d_smA da di) 14))), ((dd 15), .inl (g.2.1, 3, .inl ((d_smA da di) 15))), ((dd 16), .inl (g.2.1, 72, .inl ((d_smA da di) 16))), ((dd 17), .inl (g.2.1, 64, .inl ((d_smA da di) 17)))]) u) t) (va_A [((dd 0), cD dd di sm), ((dd 1), .inl (g.2.1, 32, .inl (da 1))), ((dd 2), .inl (g.2.1, 48, .inl (da 2))), ((dd 3), .inl (g.2.1, 4, .inl (da 3))), ((dd 4), .inl (g.2.1, 4, .inl (da 4))), ((dd 5), .inl (g.2.1, 4, .inl (da 5))), ((dd 6), .inl (g.2.1, 4, .inl (da 6))), ((dd 7), .inl (g.2.1, 4, .inl (da 7))), ((dd 8), .inl (g.2.1, 4, .inl (da 8))), ((dd 9), .inl (g.2.1, 4, .inl (da 9))), ((dd 10), .inl (g.2.1, 4, .inl (da 10))), ((dd 11), .inl (g.2.1, 4, .inl (da 11))), ((dd 12), .inl (g.2.1, 4, .inl (da 12))), ((dd 13), .inl (g.2.1, 4, .inl (da 13))), ((dd 14), .inl (g.2.1, 200, .inl (da 14))), ((dd 15), .inl (g.2.1, 3, .inl (da 15))), ((dd 16), .inl (g.2.1, 72, .inl (da 16))), ((dd 17), .inl (g.2.1, 64, .inl (da 17)))] sz)) ([.ref (dd 0)] : List Value).toArray s 4 48 (va_A [((dd 0), cD dd di sm), ((dd 1), .inl (g.2.1, 32, .inl (da 1))), ((dd 2), .inl (g.2.1, 48, .inl (da 2))), ((dd 3), .inl (g.2.1, 4, .inl (da 3))), ((dd 4), .inl (g.2.1, 4, .inl (da 4))), ((dd 5), .inl (g.2.1, 4, .inl (da 5))), ((dd 6), .inl (g.2.1, 4, .inl (da 6))), ((dd 7), .inl (g.2.1, 4, .inl (da 7))), ((dd 8), .inl (g.2.1, 4, .inl (da 8))), ((dd 9), .inl (g.2.1, 4, .inl (da 9))), ((dd 10), .inl (g.2.1, 4, .inl (da 10))), ((dd 11), .inl (g.2.1, 4, .inl (da 11))), ((dd 12), .inl (g.2.1, 4, .inl (da 12))), ((dd 13), .inl (g.2.1, 4, .inl (da 13))), ((dd 14), .inl (g.2.1, 200, .inl (da 14))), ((dd 15), .inl (g.2.1, 3, .inl (da 15))), ((dd 16), .inl (g.2.1, 72, .inl (da 16))), ((dd 17), .inl (g.2.1, 64, .inl (da 17)))] sz)) 5 g (va_A [((dd 0), cD dd di sm), ((dd 1), .inl (g.2.1, 32, .inl (da 1))), ((dd 2), .inl (g.2.1, 48, .inl (da 2))), ((dd 3), .inl (g.2.1, 4, .inl (da 3))), ((dd 4), .inl (g.2.1, 4, .inl (da 4))), ((dd 5), .inl (g.2.1, 4, .inl (da 5))), ((dd 6), .inl (g.2.1, 4, .inl (da 6))), ((dd 7), .inl (g.2.1, 4, .inl (da 7))), ((dd 8), .inl (g.2.1, 4, .inl (da 8))), ((dd 9), .inl (g.2.1, 4, .inl (da 9))), ((dd 10), .inl (g.2.1, 4, .inl (da 10))), ((dd 11), .inl (g.2.1, 4, .inl (da 11))), ((dd 12), .inl (g.2.1, 4, .inl (da 12))), ((dd 13), .inl (g.2.1, 4, .inl (da 13))), ((dd 14), .inl (g.2.1, 200, .inl (da 14))), ((dd 15), .inl (g.2.1, 3, .inl (da 15))), ((dd 16), .inl (g.2.1, 72, .inl (da 16))), ((dd 17), .inl (g.2.1, 64, .inl (da 17)))] sz) [((dd 0), cD dd J sm), ((dd 1), .inl (g.2.1, 32, .inl (G 1))), ((dd 2), .inl (g.2.1, 48, .inl (G 2))), ((dd 3), .inl (g.2.1, 4, .inl (G 3))), ((dd 4), .inl (g.2.1, 4, .inl (G 4))), ((dd 5), .inl (g.2.1, 4, .inl (G 5))), ((dd 6), .inl (g.2.1, 4, .inl (G 6))), ((dd 7), .inl (g.2.1, 4, .inl (G 7))), ((dd 8), .inl (g.2.1, 4, .inl (G 8))), ((dd 9), .inl (g.2.1, 4, .inl (G 9))), ((dd 10), .inl (g.2.1, 4, .inl (G 10))), ((dd 11), .inl (g.2.1, 4, .inl (G 11))), ((dd 12), .inl (g.2.1, 4, .inl (G 12))), ((dd 13), .inl (g.2.1, 4, .inl (G 13))), ((dd 14), .inl (g.2.1, 200, .inl (d_dl J x_8 (G 14)))), ((dd 15), .inl (g.2.1, 3, .inl (G 15))), ((dd 16), .inl (g.2.1, 72, .inl (G 16))), ((dd 17), .inl (g.2.1, 64, .inl (G 17)))] [(3, .int r_12), (2, .int x_11), (1, .int x_8), (0, .ref (dd 0))] [.int x_15, .int (J 15), .ref (dd 0)] 136 4 48 := by
      intro x_15 ex_15
      refine g_iadd B dX7_sample_136 ?_
      refine g_topi (fun x_16 ex_16 => ?_)
      refine g_put (C := RX7) (T := TX7) (N := 35) (ty := .int) (v := .int x_16) B 6 0 32 [((dd 0), cD dd (upd J 15 x_16) sm), ((dd 1), .inl (g.2.1, 32, .inl (G 1))), ((dd 2), .inl (g.2.1, 48, .inl (G 2))), ((dd 3), .inl (g.2.1, 4, .inl (G 3))), ((dd 4), .inl (g.2.1, 4, .inl (G 4))), ((dd 5), .inl (g.2.1, 4, .inl (G 5))), ((dd 6), .inl (g.2.1, 4, .inl (G 6))), ((dd 7), .inl (g.2.1, 4, .inl (G 7))), ((dd 8), .inl (g.2.1, 4, .inl (G 8))), ((dd 9), .inl (g.2.1, 4, .inl (G 9))), ((dd 10), .inl (g.2.1, 4, .inl (G 10))), ((dd 11), .inl (g.2.1, 4, .inl (G 11))), ((dd 12), .inl (g.2.1, 4, .inl (G 12))), ((dd 13), .inl (g.2.1, 4, .inl (G 13))), ((dd 14), .inl (g.2.1, 200, .inl (d_dl J x_8 (G 14)))), ((dd 15), .inl (g.2.1, 3, .inl (G 15))), ((dd 16), .inl (g.2.1, 72, .inl (G 16))), ((dd 17), .inl (g.2.1, 64, .inl (G 17)))] in_X7 tyX7 tyX7_ok nmX7 rfl q971 rfl (Nat.le_of_ble_eq_true rfl) (fun _ h9 => h9) rfl rfl rfl rfl (Nat.le_of_ble_eq_true rfl) rfl dX7_sample_137 ?_
      refine g_aload_n B 0 3 dX7_sample_140 rfl rfl ?_
      refine g_dup B dX7_sample_141 rfl ?_
      refine g_get (C := RX7) (T := TX7) (N := 35) B 6 0 33 (.int (J 16)) in_X7 rfl q973 rfl (Nat.le_of_ble_eq_true rfl) (fun _ h9 => h9) rfl dX7_sample_142 ?_
      refine g_iload_n B 3 0 dX7_sample_145 rfl rfl ?_
      have j_18 : ∀ (x_19 : Int32), x_19 = mk_x r_12 ((G 17) 0) → gW p l e (gRm 3 73 4 48) s m ([.ref (dd 0)] : List Value).toArray below meth c (MQ below (va_Qi (fun (r : Int32) (_ : Unit) => r = d_smR da di) (fun u t => gE g (va_A [((dd 0), cD dd di sm), ((dd 1), .inl (g.2.1, 32, .inl (da 1))), ((dd 2), .inl (g.2.1, 48, .inl (da 2))), ((dd 3), .inl (g.2.1, 4, .inl (da 3))), ((dd 4), .inl (g.2.1, 4, .inl (da 4))), ((dd 5), .inl (g.2.1, 4, .inl (da 5))), ((dd 6), .inl (g.2.1, 4, .inl (da 6))), ((dd 7), .inl (g.2.1, 4, .inl (da 7))), ((dd 8), .inl (g.2.1, 4, .inl (da 8))), ((dd 9), .inl (g.2.1, 4, .inl (da 9))), ((dd 10), .inl (g.2.1, 4, .inl (da 10))), ((dd 11), .inl (g.2.1, 4, .inl (da 11))), ((dd 12), .inl (g.2.1, 4, .inl (da 12))), ((dd 13), .inl (g.2.1, 4, .inl (da 13))), ((dd 14), .inl (g.2.1, 200, .inl (da 14))), ((dd 15), .inl (g.2.1, 3, .inl (da 15))), ((dd 16), .inl (g.2.1, 72, .inl (da 16))), ((dd 17), .inl (g.2.1, 64, .inl (da 17)))] sz) ((fun _ : Unit => [((dd 0), cD dd (d_smD da di) (sm + Int32.toInt64 (pab (d_smR da di)))), ((dd 1), .inl (g.2.1, 32, .inl ((d_smA da di) 1))), ((dd 2), .inl (g.2.1, 48, .inl ((d_smA da di) 2))), ((dd 3), .inl (g.2.1, 4, .inl ((d_smA da di) 3))), ((dd 4), .inl (g.2.1, 4, .inl ((d_smA da di) 4))), ((dd 5), .inl (g.2.1, 4, .inl ((d_smA da di) 5))), ((dd 6), .inl (g.2.1, 4, .inl ((d_smA da di) 6))), ((dd 7), .inl (g.2.1, 4, .inl ((d_smA da di) 7))), ((dd 8), .inl (g.2.1, 4, .inl ((d_smA da di) 8))), ((dd 9), .inl (g.2.1, 4, .inl ((d_smA da di) 9))), ((dd 10), .inl (g.2.1, 4, .inl ((d_smA da di) 10))), ((dd 11), .inl (g.2.1, 4, .inl ((d_smA da di) 11))), ((dd 12), .inl (g.2.1, 4, .inl ((d_smA da di) 12))), ((dd 13), .inl (g.2.1, 4, .inl ((d_smA da di) 13))), ((dd 14), .inl (g.2.1, 200, .inl ((d_smA da di) 14))), ((dd 15), .inl (g.2.1, 3, .inl ((d_smA da di) 15))), ((dd 16), .inl (g.2.1, 72, .inl ((d_smA da di) 16))), ((dd 17), .inl (g.2.1, 64, .inl ((d_smA da di) 17)))]) u) t) (va_A [((dd 0), cD dd di sm), ((dd 1), .inl (g.2.1, 32, .inl (da 1))), ((dd 2), .inl (g.2.1, 48, .inl (da 2))), ((dd 3), .inl (g.2.1, 4, .inl (da 3))), ((dd 4), .inl (g.2.1, 4, .inl (da 4))), ((dd 5), .inl (g.2.1, 4, .inl (da 5))), ((dd 6), .inl (g.2.1, 4, .inl (da 6))), ((dd 7), .inl (g.2.1, 4, .inl (da 7))), ((dd 8), .inl (g.2.1, 4, .inl (da 8))), ((dd 9), .inl (g.2.1, 4, .inl (da 9))), ((dd 10), .inl (g.2.1, 4, .inl (da 10))), ((dd 11), .inl (g.2.1, 4, .inl (da 11))), ((dd 12), .inl (g.2.1, 4, .inl (da 12))), ((dd 13), .inl (g.2.1, 4, .inl (da 13))), ((dd 14), .inl (g.2.1, 200, .inl (da 14))), ((dd 15), .inl (g.2.1, 3, .inl (da 15))), ((dd 16), .inl (g.2.1, 72, .inl (da 16))), ((dd 17), .inl (g.2.1, 64, .inl (da 17)))] sz)) ([.ref (dd 0)] : List Value).toArray s 4 48 (va_A [((dd 0), cD dd di sm), ((dd 1), .inl (g.2.1, 32, .inl (da 1))), ((dd 2), .inl (g.2.1, 48, .inl (da 2))), ((dd 3), .inl (g.2.1, 4, .inl (da 3))), ((dd 4), .inl (g.2.1, 4, .inl (da 4))), ((dd 5), .inl (g.2.1, 4, .inl (da 5))), ((dd 6), .inl (g.2.1, 4, .inl (da 6))), ((dd 7), .inl (g.2.1, 4, .inl (da 7))), ((dd 8), .inl (g.2.1, 4, .inl (da 8))), ((dd 9), .inl (g.2.1, 4, .inl (da 9))), ((dd 10), .inl (g.2.1, 4, .inl (da 10))), ((dd 11), .inl (g.2.1, 4, .inl (da 11))), ((dd 12), .inl (g.2.1, 4, .inl (da 12))), ((dd 13), .inl (g.2.1, 4, .inl (da 13))), ((dd 14), .inl (g.2.1, 200, .inl (da 14))), ((dd 15), .inl (g.2.1, 3, .inl (da 15))), ((dd 16), .inl (g.2.1, 72, .inl (da 16))), ((dd 17), .inl (g.2.1, 64, .inl (da 17)))] sz)) 5 g (va_A [((dd 0), cD dd di sm), ((dd 1), .inl (g.2.1, 32, .inl (da 1))), ((dd 2), .inl (g.2.1, 48, .inl (da 2))), ((dd 3), .inl (g.2.1, 4, .inl (da 3))), ((dd 4), .inl (g.2.1, 4, .inl (da 4))), ((dd 5), .inl (g.2.1, 4, .inl (da 5))), ((dd 6), .inl (g.2.1, 4, .inl (da 6))), ((dd 7), .inl (g.2.1, 4, .inl (da 7))), ((dd 8), .inl (g.2.1, 4, .inl (da 8))), ((dd 9), .inl (g.2.1, 4, .inl (da 9))), ((dd 10), .inl (g.2.1, 4, .inl (da 10))), ((dd 11), .inl (g.2.1, 4, .inl (da 11))), ((dd 12), .inl (g.2.1, 4, .inl (da 12))), ((dd 13), .inl (g.2.1, 4, .inl (da 13))), ((dd 14), .inl (g.2.1, 200, .inl (da 14))), ((dd 15), .inl (g.2.1, 3, .inl (da 15))), ((dd 16), .inl (g.2.1, 72, .inl (da 16))), ((dd 17), .inl (g.2.1, 64, .inl (da 17)))] sz) [((dd 0), cD dd (upd J 15 x_16) sm), ((dd 1), .inl (g.2.1, 32, .inl (G 1))), ((dd 2), .inl (g.2.1, 48, .inl (G 2))), ((dd 3), .inl (g.2.1, 4, .inl (G 3))), ((dd 4), .inl (g.2.1, 4, .inl (G 4))), ((dd 5), .inl (g.2.1, 4, .inl (G 5))), ((dd 6), .inl (g.2.1, 4, .inl (G 6))), ((dd 7), .inl (g.2.1, 4, .inl (G 7))), ((dd 8), .inl (g.2.1, 4, .inl (G 8))), ((dd 9), .inl (g.2.1, 4, .inl (G 9))), ((dd 10), .inl (g.2.1, 4, .inl (G 10))), ((dd 11), .inl (g.2.1, 4, .inl (G 11))), ((dd 12), .inl (g.2.1, 4, .inl (G 12))), ((dd 13), .inl (g.2.1, 4, .inl (G 13))), ((dd 14), .inl (g.2.1, 200, .inl (d_dl J x_8 (G 14)))), ((dd 15), .inl (g.2.1, 3, .inl (G 15))), ((dd 16), .inl (g.2.1, 72, .inl (G 16))), ((dd 17), .inl (g.2.1, 64, .inl (G 17)))] [(3, .int r_12), (2, .int x_11), (1, .int x_8), (0, .ref (dd 0))] [.int x_19, .int (J 16), .ref (dd 0)] 163 4 48 := by
        intro x_19 ex_19
        refine g_iadd B dX7_sample_163 ?_
        refine g_topi (fun x_20 ex_20 => ?_)
        refine g_put (C := RX7) (T := TX7) (N := 35) (ty := .int) (v := .int x_20) B 6 0 33 [((dd 0), cD dd (upd (upd J 15 x_16) 16 x_20) sm), ((dd 1), .inl (g.2.1, 32, .inl (G 1))), ((dd 2), .inl (g.2.1, 48, .inl (G 2))), ((dd 3), .inl (g.2.1, 4, .inl (G 3))), ((dd 4), .inl (g.2.1, 4, .inl (G 4))), ((dd 5), .inl (g.2.1, 4, .inl (G 5))), ((dd 6), .inl (g.2.1, 4, .inl (G 6))), ((dd 7), .inl (g.2.1, 4, .inl (G 7))), ((dd 8), .inl (g.2.1, 4, .inl (G 8))), ((dd 9), .inl (g.2.1, 4, .inl (G 9))), ((dd 10), .inl (g.2.1, 4, .inl (G 10))), ((dd 11), .inl (g.2.1, 4, .inl (G 11))), ((dd 12), .inl (g.2.1, 4, .inl (G 12))), ((dd 13), .inl (g.2.1, 4, .inl (G 13))), ((dd 14), .inl (g.2.1, 200, .inl (d_dl J x_8 (G 14)))), ((dd 15), .inl (g.2.1, 3, .inl (G 15))), ((dd 16), .inl (g.2.1, 72, .inl (G 16))), ((dd 17), .inl (g.2.1, 64, .inl (G 17)))] in_X7 tyX7 tyX7_ok nmX7 rfl q973 rfl (Nat.le_of_ble_eq_true rfl) (fun _ h9 => h9) rfl rfl rfl rfl (Nat.le_of_ble_eq_true rfl) rfl dX7_sample_164 ?_
        refine g_aload_n B 0 3 dX7_sample_167 rfl rfl ?_
        refine g_aload_n B 0 3 dX7_sample_168 rfl rfl ?_
        refine g_get (C := RX7) (T := TX7) (N := 35) B 6 0 31 (.int (J 14)) in_X7 rfl q969 rfl (Nat.le_of_ble_eq_true rfl) (fun _ h9 => h9) rfl dX7_sample_169 ?_
        refine g_iload_n B 3 0 dX7_sample_172 rfl rfl ?_
        refine g_mabs B q1223 q521 q33 q522 (Nat.le_of_ble_eq_true rfl) (Nat.le_of_ble_eq_true rfl) (Nat.le_of_ble_eq_true rfl) (Nat.le_of_ble_eq_true rfl) dX7_sample_173 ?_
        refine g_mmax B q1212 q220 q33 q221 (Nat.le_of_ble_eq_true rfl) (Nat.le_of_ble_eq_true rfl) (Nat.le_of_ble_eq_true rfl) (Nat.le_of_ble_eq_true rfl) dX7_sample_176 ?_
        refine g_topi (fun x_21 ex_21 => ?_)
        refine g_put (C := RX7) (T := TX7) (N := 35) (ty := .int) (v := .int x_21) B 6 0 31 [((dd 0), cD dd (upd (upd (upd J 15 x_16) 16 x_20) 14 x_21) sm), ((dd 1), .inl (g.2.1, 32, .inl (G 1))), ((dd 2), .inl (g.2.1, 48, .inl (G 2))), ((dd 3), .inl (g.2.1, 4, .inl (G 3))), ((dd 4), .inl (g.2.1, 4, .inl (G 4))), ((dd 5), .inl (g.2.1, 4, .inl (G 5))), ((dd 6), .inl (g.2.1, 4, .inl (G 6))), ((dd 7), .inl (g.2.1, 4, .inl (G 7))), ((dd 8), .inl (g.2.1, 4, .inl (G 8))), ((dd 9), .inl (g.2.1, 4, .inl (G 9))), ((dd 10), .inl (g.2.1, 4, .inl (G 10))), ((dd 11), .inl (g.2.1, 4, .inl (G 11))), ((dd 12), .inl (g.2.1, 4, .inl (G 12))), ((dd 13), .inl (g.2.1, 4, .inl (G 13))), ((dd 14), .inl (g.2.1, 200, .inl (d_dl J x_8 (G 14)))), ((dd 15), .inl (g.2.1, 3, .inl (G 15))), ((dd 16), .inl (g.2.1, 72, .inl (G 16))), ((dd 17), .inl (g.2.1, 64, .inl (G 17)))] in_X7 tyX7 tyX7_ok nmX7 rfl q969 rfl (Nat.le_of_ble_eq_true rfl) (fun _ h9 => h9) rfl rfl rfl rfl (Nat.le_of_ble_eq_true rfl) rfl dX7_sample_179 ?_
        refine g_aload_n B 0 3 dX7_sample_182 rfl rfl ?_
        refine g_dup B dX7_sample_183 rfl ?_
        refine g_get (C := RX7) (T := TX7) (N := 35) B 6 0 34 (.long sm) in_X7 rfl q975 rfl (Nat.le_of_ble_eq_true rfl) (fun _ h9 => h9) rfl dX7_sample_184 ?_
        refine g_iload_n B 3 0 dX7_sample_187 rfl rfl ?_
        refine g_mabs B q1223 q521 q33 q522 (Nat.le_of_ble_eq_true rfl) (Nat.le_of_ble_eq_true rfl) (Nat.le_of_ble_eq_true rfl) (Nat.le_of_ble_eq_true rfl) dX7_sample_188 ?_
        refine g_i2l B dX7_sample_191 ?_
        refine g_ladd B dX7_sample_192 ?_
        refine g_topl (fun x_22 ex_22 => ?_)
        refine g_put (C := RX7) (T := TX7) (N := 35) (ty := .long) (v := .long x_22) B 6 0 34 [((dd 0), cD dd (upd (upd (upd J 15 x_16) 16 x_20) 14 x_21) x_22), ((dd 1), .inl (g.2.1, 32, .inl (G 1))), ((dd 2), .inl (g.2.1, 48, .inl (G 2))), ((dd 3), .inl (g.2.1, 4, .inl (G 3))), ((dd 4), .inl (g.2.1, 4, .inl (G 4))), ((dd 5), .inl (g.2.1, 4, .inl (G 5))), ((dd 6), .inl (g.2.1, 4, .inl (G 6))), ((dd 7), .inl (g.2.1, 4, .inl (G 7))), ((dd 8), .inl (g.2.1, 4, .inl (G 8))), ((dd 9), .inl (g.2.1, 4, .inl (G 9))), ((dd 10), .inl (g.2.1, 4, .inl (G 10))), ((dd 11), .inl (g.2.1, 4, .inl (G 11))), ((dd 12), .inl (g.2.1, 4, .inl (G 12))), ((dd 13), .inl (g.2.1, 4, .inl (G 13))), ((dd 14), .inl (g.2.1, 200, .inl (d_dl J x_8 (G 14)))), ((dd 15), .inl (g.2.1, 3, .inl (G 15))), ((dd 16), .inl (g.2.1, 72, .inl (G 16))), ((dd 17), .inl (g.2.1, 64, .inl (G 17)))] in_X7 tyX7 tyX7_ok nmX7 rfl q975 rfl (Nat.le_of_ble_eq_true rfl) (fun _ h9 => h9) rfl rfl rfl rfl (Nat.le_of_ble_eq_true rfl) rfl dX7_sample_193 ?_
        refine g_aload_n B 0 3 dX7_sample_196 rfl rfl ?_
        refine g_dup B dX7_sample_197 rfl ?_
        refine g_get (C := RX7) (T := TX7) (N := 35) B 6 0 30 (.int (J 13)) in_X7 rfl q967 rfl (Nat.le_of_ble_eq_true rfl) (fun _ h9 => h9) rfl dX7_sample_198 ?_
        refine g_iconst (v := 1) B dX7_sample_201 kc_1 ?_
        refine g_iadd B dX7_sample_202 ?_
        refine g_put (C := RX7) (T := TX7) (N := 35) (ty := .int) (v := .int ((J 13) + 1)) B 6 0 30 [((dd 0), cD dd (upd (upd (upd (upd J 15 x_16) 16 x_20) 14 x_21) 13 ((J 13) + 1)) x_22), ((dd 1), .inl (g.2.1, 32, .inl (G 1))), ((dd 2), .inl (g.2.1, 48, .inl (G 2))), ((dd 3), .inl (g.2.1, 4, .inl (G 3))), ((dd 4), .inl (g.2.1, 4, .inl (G 4))), ((dd 5), .inl (g.2.1, 4, .inl (G 5))), ((dd 6), .inl (g.2.1, 4, .inl (G 6))), ((dd 7), .inl (g.2.1, 4, .inl (G 7))), ((dd 8), .inl (g.2.1, 4, .inl (G 8))), ((dd 9), .inl (g.2.1, 4, .inl (G 9))), ((dd 10), .inl (g.2.1, 4, .inl (G 10))), ((dd 11), .inl (g.2.1, 4, .inl (G 11))), ((dd 12), .inl (g.2.1, 4, .inl (G 12))), ((dd 13), .inl (g.2.1, 4, .inl (G 13))), ((dd 14), .inl (g.2.1, 200, .inl (d_dl J x_8 (G 14)))), ((dd 15), .inl (g.2.1, 3, .inl (G 15))), ((dd 16), .inl (g.2.1, 72, .inl (G 16))), ((dd 17), .inl (g.2.1, 64, .inl (G 17)))] in_X7 tyX7 tyX7_ok nmX7 rfl q967 rfl (Nat.le_of_ble_eq_true rfl) (fun _ h9 => h9) rfl rfl rfl rfl (Nat.le_of_ble_eq_true rfl) rfl dX7_sample_203 ?_
        refine g_aload_n B 0 3 dX7_sample_206 rfl rfl ?_
        refine g_get (C := RX7) (T := TX7) (N := 35) B 6 0 29 (.ref (dd 17)) in_X7 rfl q965 rfl (Nat.le_of_ble_eq_true rfl) (fun _ h9 => h9) rfl dX7_sample_207 ?_
        refine g_iconst (v := 0) B dX7_sample_210 kc_0 ?_
        refine g_aload_n B 0 3 dX7_sample_211 rfl rfl ?_
        refine g_get (C := RX7) (T := TX7) (N := 35) B 6 0 29 (.ref (dd 17)) in_X7 rfl q965 rfl (Nat.le_of_ble_eq_true rfl) (fun _ h9 => h9) rfl dX7_sample_212 ?_
        refine g_iconst (v := 1) B dX7_sample_215 kc_1 ?_
        refine g_bipush (v := 63) B dX7_sample_216 kb_63 ?_
        refine g_copyi B 17 17 [((dd 0), cD dd (upd (upd (upd (upd J 15 x_16) 16 x_20) 14 x_21) 13 ((J 13) + 1)) x_22), ((dd 1), .inl (g.2.1, 32, .inl (G 1))), ((dd 2), .inl (g.2.1, 48, .inl (G 2))), ((dd 3), .inl (g.2.1, 4, .inl (G 3))), ((dd 4), .inl (g.2.1, 4, .inl (G 4))), ((dd 5), .inl (g.2.1, 4, .inl (G 5))), ((dd 6), .inl (g.2.1, 4, .inl (G 6))), ((dd 7), .inl (g.2.1, 4, .inl (G 7))), ((dd 8), .inl (g.2.1, 4, .inl (G 8))), ((dd 9), .inl (g.2.1, 4, .inl (G 9))), ((dd 10), .inl (g.2.1, 4, .inl (G 10))), ((dd 11), .inl (g.2.1, 4, .inl (G 11))), ((dd 12), .inl (g.2.1, 4, .inl (G 12))), ((dd 13), .inl (g.2.1, 4, .inl (G 13))), ((dd 14), .inl (g.2.1, 200, .inl (d_dl J x_8 (G 14)))), ((dd 15), .inl (g.2.1, 3, .inl (G 15))), ((dd 16), .inl (g.2.1, 72, .inl (G 16))), ((dd 17), .inl (g.2.1, 64, .inl (va_cpy (G 17) (G 17) 0 1 63)))] q1221 q255 q254 q35 rfl rfl (by decide) (by decide) (by decide) (by decide) (by decide) (Nat.le_of_ble_eq_true rfl) (by decide) rfl dX7_sample_218 ?_
        refine g_aload_n B 0 3 dX7_sample_221 rfl rfl ?_
        refine g_get (C := RX7) (T := TX7) (N := 35) B 6 0 29 (.ref (dd 17)) in_X7 rfl q965 rfl (Nat.le_of_ble_eq_true rfl) (fun _ h9 => h9) rfl dX7_sample_222 ?_
        refine g_iconst (v := 0) B dX7_sample_225 kc_0 ?_
        refine g_iload_n B 3 0 dX7_sample_226 rfl rfl ?_
        refine g_iast B 17 0 [((dd 0), cD dd (upd (upd (upd (upd J 15 x_16) 16 x_20) 14 x_21) 13 ((J 13) + 1)) x_22), ((dd 1), .inl (g.2.1, 32, .inl (G 1))), ((dd 2), .inl (g.2.1, 48, .inl (G 2))), ((dd 3), .inl (g.2.1, 4, .inl (G 3))), ((dd 4), .inl (g.2.1, 4, .inl (G 4))), ((dd 5), .inl (g.2.1, 4, .inl (G 5))), ((dd 6), .inl (g.2.1, 4, .inl (G 6))), ((dd 7), .inl (g.2.1, 4, .inl (G 7))), ((dd 8), .inl (g.2.1, 4, .inl (G 8))), ((dd 9), .inl (g.2.1, 4, .inl (G 9))), ((dd 10), .inl (g.2.1, 4, .inl (G 10))), ((dd 11), .inl (g.2.1, 4, .inl (G 11))), ((dd 12), .inl (g.2.1, 4, .inl (G 12))), ((dd 13), .inl (g.2.1, 4, .inl (G 13))), ((dd 14), .inl (g.2.1, 200, .inl (d_dl J x_8 (G 14)))), ((dd 15), .inl (g.2.1, 3, .inl (G 15))), ((dd 16), .inl (g.2.1, 72, .inl (G 16))), ((dd 17), .inl (g.2.1, 64, .inl (upd (va_cpy (G 17) (G 17) 0 1 63) 0 r_12)))] rfl (by decide) (vpc rfl) rfl dX7_sample_227 ?_
        refine g_aload_n B 0 3 dX7_sample_228 rfl rfl ?_
        refine g_dup B dX7_sample_229 rfl ?_
        refine g_get (C := RX7) (T := TX7) (N := 35) B 6 0 28 (.int (J 12)) in_X7 rfl q963 rfl (Nat.le_of_ble_eq_true rfl) (fun _ h9 => h9) rfl dX7_sample_230 ?_
        refine g_iconst (v := 1) B dX7_sample_233 kc_1 ?_
        refine g_iadd B dX7_sample_234 ?_
        refine g_put (C := RX7) (T := TX7) (N := 35) (ty := .int) (v := .int ((J 12) + 1)) B 6 0 28 [((dd 0), cD dd (upd (upd (upd (upd (upd J 15 x_16) 16 x_20) 14 x_21) 13 ((J 13) + 1)) 12 ((J 12) + 1)) x_22), ((dd 1), .inl (g.2.1, 32, .inl (G 1))), ((dd 2), .inl (g.2.1, 48, .inl (G 2))), ((dd 3), .inl (g.2.1, 4, .inl (G 3))), ((dd 4), .inl (g.2.1, 4, .inl (G 4))), ((dd 5), .inl (g.2.1, 4, .inl (G 5))), ((dd 6), .inl (g.2.1, 4, .inl (G 6))), ((dd 7), .inl (g.2.1, 4, .inl (G 7))), ((dd 8), .inl (g.2.1, 4, .inl (G 8))), ((dd 9), .inl (g.2.1, 4, .inl (G 9))), ((dd 10), .inl (g.2.1, 4, .inl (G 10))), ((dd 11), .inl (g.2.1, 4, .inl (G 11))), ((dd 12), .inl (g.2.1, 4, .inl (G 12))), ((dd 13), .inl (g.2.1, 4, .inl (G 13))), ((dd 14), .inl (g.2.1, 200, .inl (d_dl J x_8 (G 14)))), ((dd 15), .inl (g.2.1, 3, .inl (G 15))), ((dd 16), .inl (g.2.1, 72, .inl (G 16))), ((dd 17), .inl (g.2.1, 64, .inl (upd (va_cpy (G 17) (G 17) 0 1 63) 0 r_12)))] in_X7 tyX7 tyX7_ok nmX7 rfl q963 rfl (Nat.le_of_ble_eq_true rfl) (fun _ h9 => h9) rfl rfl rfl rfl (Nat.le_of_ble_eq_true rfl) rfl dX7_sample_235 ?_
        subst ex_22
        subst ex_21
        subst ex_20
        subst ex_19
        subst ex_16
        subst ex_15
        refine g_eqw (ws' := [((dd 0), cD dd (d_i5 J r_12 x_11 ((G 17) 0)) (sm + Int32.toInt64 (pab r_12))), ((dd 1), .inl (g.2.1, 32, .inl (G 1))), ((dd 2), .inl (g.2.1, 48, .inl (G 2))), ((dd 3), .inl (g.2.1, 4, .inl (G 3))), ((dd 4), .inl (g.2.1, 4, .inl (G 4))), ((dd 5), .inl (g.2.1, 4, .inl (G 5))), ((dd 6), .inl (g.2.1, 4, .inl (G 6))), ((dd 7), .inl (g.2.1, 4, .inl (G 7))), ((dd 8), .inl (g.2.1, 4, .inl (G 8))), ((dd 9), .inl (g.2.1, 4, .inl (G 9))), ((dd 10), .inl (g.2.1, 4, .inl (G 10))), ((dd 11), .inl (g.2.1, 4, .inl (G 11))), ((dd 12), .inl (g.2.1, 4, .inl (G 12))), ((dd 13), .inl (g.2.1, 4, .inl (G 13))), ((dd 14), .inl (g.2.1, 200, .inl (d_dl J x_8 (G 14)))), ((dd 15), .inl (g.2.1, 3, .inl (G 15))), ((dd 16), .inl (g.2.1, 72, .inl (G 16))), ((dd 17), .inl (g.2.1, 64, .inl (mk_hd (G 17) r_12)))]) rfl ?_
        have hM : d_m (J 12) (J 2) F = x_8 := by unfold d_m; simp only [hr_2, hr_3, ex_4, hr_5, hr_6, ex_7, ex_8]
        obtain ⟨hSA, hSD, hSR⟩ := d_sm_eq hF hJ hG hM ex_11 hr_12
        refine X7_sample_b B dd (d_i5 J r_12 x_11 ((G 17) 0)) G (d_dl J x_8 (G 14)) (mk_hd (G 17) r_12) r_12 x_8 x_11 (sm + Int32.toInt64 (pab r_12)) (fun J2 hJ2 => ?_)
        exact g_iret B hr dX7_sample_318 (Nat.le_of_ble_eq_true rfl) (Nat.le_of_ble_eq_true rfl) () hSR.symm [0, 1, 2, 3, 4, 5, 6, 7, 8, 9, 10, 11, 12, 13, 14, 15, 16, 17] rfl (by rw [hSA, hSD, hSR, ← hJ2]; rfl)
      refine g_if_le (tgt := 162) B dX7_sample_146 (by decide) (fun c_17 => ?_) (fun c_17 => ?_)
      · skip
        refine g_iconst (v := 0) B dX7_sample_162 kc_0 ?_
        exact j_18 _ (by first | rfl | (simp only [d_its, d_dl, d_cl, mk_x, d_dc, if_pos c_17]; done) | (simp only [d_its, d_dl, d_cl, mk_x, d_dc, if_pos c_17]; rfl))
      · skip
        refine g_aload_n B 0 3 dX7_sample_149 rfl rfl ?_
        refine g_get (C := RX7) (T := TX7) (N := 35) B 6 0 29 (.ref (dd 17)) in_X7 rfl q965 rfl (Nat.le_of_ble_eq_true rfl) (fun _ h9 => h9) rfl dX7_sample_150 ?_
        refine g_iconst (v := 0) B dX7_sample_153 kc_0 ?_
        refine g_iald B 17 0 rfl (by decide) (vpc rfl) dX7_sample_154 ?_
        refine g_if_gt (tgt := 162) B dX7_sample_155 (by decide) (fun c_23 => ?_) (fun c_23 => ?_)
        · skip
          refine g_iconst (v := 0) B dX7_sample_162 kc_0 ?_
          exact j_18 _ (by first | rfl | (simp only [d_its, d_dl, d_cl, mk_x, d_dc, if_neg c_17, if_pos c_23]; done) | (simp only [d_its, d_dl, d_cl, mk_x, d_dc, if_neg c_17, if_pos c_23]; rfl))
        · skip
          refine g_iconst (v := 1) B dX7_sample_158 kc_1 ?_
          refine g_goto (tgt := 163) B dX7_sample_159 (by decide) ?_
          exact j_18 _ (by first | rfl | (simp only [d_its, d_dl, d_cl, mk_x, d_dc, if_neg c_17, if_neg c_23]; done) | (simp only [d_its, d_dl, d_cl, mk_x, d_dc, if_neg c_17, if_neg c_23]; rfl))
    refine g_icmp_ne (tgt := 135) B dX7_sample_128 (by decide) (fun c_13 => ?_) (fun c_13 => ?_)
    · skip
      refine g_iconst (v := 1) B dX7_sample_135 kc_1 ?_
      exact j_14 _ (by first | rfl | (simp only [d_its, d_dl, d_cl, mk_x, d_dc, if_neg c_13]; done) | (simp only [d_its, d_dl, d_cl, mk_x, d_dc, if_neg c_13]; rfl))
    · skip
      refine g_iconst (v := 0) B dX7_sample_131 kc_0 ?_
      refine g_goto (tgt := 136) B dX7_sample_132 (by decide) ?_
      exact j_14 _ (by first | rfl | (simp only [d_its, d_dl, d_cl, mk_x, d_dc, if_pos c_13]; done) | (simp only [d_its, d_dl, d_cl, mk_x, d_dc, if_pos c_13]; rfl))
  refine g_if_le (tgt := 113) B dX7_sample_43 (by decide) (fun c_9 => ?_) (fun c_9 => ?_)
  · skip
    refine g_eqw (ws' := [((dd 0), cD dd J sm), ((dd 1), .inl (g.2.1, 32, .inl (G 1))), ((dd 2), .inl (g.2.1, 48, .inl (G 2))), ((dd 3), .inl (g.2.1, 4, .inl (G 3))), ((dd 4), .inl (g.2.1, 4, .inl (G 4))), ((dd 5), .inl (g.2.1, 4, .inl (G 5))), ((dd 6), .inl (g.2.1, 4, .inl (G 6))), ((dd 7), .inl (g.2.1, 4, .inl (G 7))), ((dd 8), .inl (g.2.1, 4, .inl (G 8))), ((dd 9), .inl (g.2.1, 4, .inl (G 9))), ((dd 10), .inl (g.2.1, 4, .inl (G 10))), ((dd 11), .inl (g.2.1, 4, .inl (G 11))), ((dd 12), .inl (g.2.1, 4, .inl (G 12))), ((dd 13), .inl (g.2.1, 4, .inl (G 13))), ((dd 14), .inl (g.2.1, 200, .inl (d_dl J x_8 (G 14)))), ((dd 15), .inl (g.2.1, 3, .inl (G 15))), ((dd 16), .inl (g.2.1, 72, .inl (G 16))), ((dd 17), .inl (g.2.1, 64, .inl (G 17)))]) (by first | (simp only [d_its, d_dl, d_cl, mk_x, d_dc, if_pos c_9]; done) | (simp only [d_its, d_dl, d_cl, mk_x, d_dc, if_pos c_9]; rfl) | rfl) ?_
    exact j_10 _ (by first | rfl | (simp only [d_its, d_dl, d_cl, mk_x, d_dc, if_pos c_9]; done) | (simp only [d_its, d_dl, d_cl, mk_x, d_dc, if_pos c_9]; rfl))
  · skip
    obtain ⟨jd, hjd, ejd⟩ := dl_1 c_9 hl
    have ej1 : J 3 - 1 = nI jd := by rw [ejd]; exact pk_sub (a := jd + 1) (b := 1) (by omega)
    refine g_aload_n B 0 2 dX7_sample_46 rfl rfl ?_
    refine g_get (C := RX7) (T := TX7) (N := 35) B 6 0 19 (.ref (dd 14)) in_X7 rfl q946 rfl (Nat.le_of_ble_eq_true rfl) (fun _ h9 => h9) rfl dX7_sample_47 ?_
    refine g_iconst (v := 0) B dX7_sample_50 kc_0 ?_
    refine g_iald B 14 0 rfl (by decide) (vpc rfl) dX7_sample_51 ?_
    refine g_istore_n B 3 [(3, .int ((G 14) 0)), (2, .int x_8), (1, .int x_8), (0, .ref (dd 0))] dX7_sample_52 rfl (Nat.le_of_ble_eq_true rfl) rfl ?_
    refine g_aload_n B 0 3 dX7_sample_53 rfl rfl ?_
    refine g_get (C := RX7) (T := TX7) (N := 35) B 6 0 19 (.ref (dd 14)) in_X7 rfl q946 rfl (Nat.le_of_ble_eq_true rfl) (fun _ h9 => h9) rfl dX7_sample_54 ?_
    refine g_iconst (v := 1) B dX7_sample_57 kc_1 ?_
    refine g_aload_n B 0 3 dX7_sample_58 rfl rfl ?_
    refine g_get (C := RX7) (T := TX7) (N := 35) B 6 0 19 (.ref (dd 14)) in_X7 rfl q946 rfl (Nat.le_of_ble_eq_true rfl) (fun _ h9 => h9) rfl dX7_sample_59 ?_
    refine g_iconst (v := 0) B dX7_sample_62 kc_0 ?_
    refine g_aload_n B 0 3 dX7_sample_63 rfl rfl ?_
    refine g_get (C := RX7) (T := TX7) (N := 35) B 6 0 16 (.int (J 3)) in_X7 rfl q940 rfl (Nat.le_of_ble_eq_true rfl) (fun _ h9 => h9) rfl dX7_sample_64 ?_
    refine g_iconst (v := 1) B dX7_sample_67 kc_1 ?_
    refine g_isub B dX7_sample_68 ?_
    refine g_copyi B 14 14 [((dd 0), cD dd J sm), ((dd 1), .inl (g.2.1, 32, .inl (G 1))), ((dd 2), .inl (g.2.1, 48, .inl (G 2))), ((dd 3), .inl (g.2.1, 4, .inl (G 3))), ((dd 4), .inl (g.2.1, 4, .inl (G 4))), ((dd 5), .inl (g.2.1, 4, .inl (G 5))), ((dd 6), .inl (g.2.1, 4, .inl (G 6))), ((dd 7), .inl (g.2.1, 4, .inl (G 7))), ((dd 8), .inl (g.2.1, 4, .inl (G 8))), ((dd 9), .inl (g.2.1, 4, .inl (G 9))), ((dd 10), .inl (g.2.1, 4, .inl (G 10))), ((dd 11), .inl (g.2.1, 4, .inl (G 11))), ((dd 12), .inl (g.2.1, 4, .inl (G 12))), ((dd 13), .inl (g.2.1, 4, .inl (G 13))), ((dd 14), .inl (g.2.1, 200, .inl (va_cpy (G 14) (G 14) 1 0 (((J 3) - 1).toNatClampNeg)))), ((dd 15), .inl (g.2.1, 3, .inl (G 15))), ((dd 16), .inl (g.2.1, 72, .inl (G 16))), ((dd 17), .inl (g.2.1, 64, .inl (G 17)))] q1221 q255 q254 q35 rfl rfl (by decide) (by decide) (by rw [ej1]; exact nI_pos (by omega)) (by rw [ej1, nI_clamp (by omega)]; show 1 + jd ≤ 200; omega) (by rw [ej1, nI_clamp (by omega)]; show 0 + jd ≤ 200; omega) (Nat.le_of_ble_eq_true rfl) (by decide) rfl dX7_sample_69 ?_
    refine g_aload_n B 0 3 dX7_sample_72 rfl rfl ?_
    refine g_get (C := RX7) (T := TX7) (N := 35) B 6 0 19 (.ref (dd 14)) in_X7 rfl q946 rfl (Nat.le_of_ble_eq_true rfl) (fun _ h9 => h9) rfl dX7_sample_73 ?_
    refine g_aload_n B 0 3 dX7_sample_76 rfl rfl ?_
    refine g_get (C := RX7) (T := TX7) (N := 35) B 6 0 16 (.int (J 3)) in_X7 rfl q940 rfl (Nat.le_of_ble_eq_true rfl) (fun _ h9 => h9) rfl dX7_sample_77 ?_
    refine g_iconst (v := 1) B dX7_sample_80 kc_1 ?_
    refine g_isub B dX7_sample_81 ?_
    refine g_iload_n B 1 2 dX7_sample_82 rfl rfl ?_
    refine g_iload_n B 3 0 dX7_sample_83 rfl rfl ?_
    refine g_aload_n B 0 3 dX7_sample_84 rfl rfl ?_
    refine g_get (C := RX7) (T := TX7) (N := 35) B 6 0 18 (.int (J 5)) in_X7 rfl q944 rfl (Nat.le_of_ble_eq_true rfl) (fun _ h9 => h9) rfl dX7_sample_85 ?_
    refine g_imul B dX7_sample_88 ?_
    refine g_sipush (v := 256) B dX7_sample_89 ks_256 ?_
    refine g_idiv B dX7_sample_92 (by decide) ?_
    refine g_iadd B dX7_sample_93 ?_
    refine g_ldc (v := 100000) B dX7_sample_94 q1222 ?_
    refine g_cuSN_i (As := [.int (x_8 + ((((G 14) 0) * (J 5)) / 256)), .int 100000]) B (m_X6_keep l hst g (x_8 + ((((G 14) 0) * (J 5)) / 256)) 100000) [] [.int ((J 3) - 1), .ref (dd 14)] (lw_meth q1218) q1216 q38 q1217 nsX6_keep rfl rfl rfl rfl (Nat.le_of_ble_eq_true rfl) dX7_sample_96 ⟨Nat.le_of_ble_eq_true rfl, Nat.le_of_ble_eq_true rfl⟩ ⟨Nat.le_of_ble_eq_true rfl, Nat.le_of_ble_eq_true rfl⟩ (fun r_24 ur_24 hr_24 => ?_)
    have hr_24 : r_24 = pkp (x_8 + ((((G 14) 0) * (J 5)) / 256)) 100000 := hr_24
    refine g_iast B 14 (((J 3) - 1).toNatClampNeg) [((dd 0), cD dd J sm), ((dd 1), .inl (g.2.1, 32, .inl (G 1))), ((dd 2), .inl (g.2.1, 48, .inl (G 2))), ((dd 3), .inl (g.2.1, 4, .inl (G 3))), ((dd 4), .inl (g.2.1, 4, .inl (G 4))), ((dd 5), .inl (g.2.1, 4, .inl (G 5))), ((dd 6), .inl (g.2.1, 4, .inl (G 6))), ((dd 7), .inl (g.2.1, 4, .inl (G 7))), ((dd 8), .inl (g.2.1, 4, .inl (G 8))), ((dd 9), .inl (g.2.1, 4, .inl (G 9))), ((dd 10), .inl (g.2.1, 4, .inl (G 10))), ((dd 11), .inl (g.2.1, 4, .inl (G 11))), ((dd 12), .inl (g.2.1, 4, .inl (G 12))), ((dd 13), .inl (g.2.1, 4, .inl (G 13))), ((dd 14), .inl (g.2.1, 200, .inl (upd (va_cpy (G 14) (G 14) 1 0 (((J 3) - 1).toNatClampNeg)) ((J 3) - 1).toNatClampNeg r_24))), ((dd 15), .inl (g.2.1, 3, .inl (G 15))), ((dd 16), .inl (g.2.1, 72, .inl (G 16))), ((dd 17), .inl (g.2.1, 64, .inl (G 17)))] rfl rfl (by rw [ej1]; exact vp_in_nI (by omega) (by decide)) rfl dX7_sample_99 ?_
    refine g_iload_n B 1 2 dX7_sample_100 rfl rfl ?_
    refine g_iload_n B 3 0 dX7_sample_101 rfl rfl ?_
    refine g_aload_n B 0 3 dX7_sample_102 rfl rfl ?_
    refine g_get (C := RX7) (T := TX7) (N := 35) B 6 0 17 (.int (J 4)) in_X7 rfl q942 rfl (Nat.le_of_ble_eq_true rfl) (fun _ h9 => h9) rfl dX7_sample_103 ?_
    refine g_imul B dX7_sample_106 ?_
    refine g_sipush (v := 256) B dX7_sample_107 ks_256 ?_
    refine g_idiv B dX7_sample_110 (by decide) ?_
    refine g_iadd B dX7_sample_111 ?_
    refine g_topi (fun x_25 ex_25 => ?_)
    refine g_istore_n B 2 [(2, .int x_25), (3, .int ((G 14) 0)), (1, .int x_8), (0, .ref (dd 0))] dX7_sample_112 rfl (Nat.le_of_ble_eq_true rfl) rfl ?_
    refine g_lv (lv' := [(2, .int x_25), (1, .int x_8), (0, .ref (dd 0))]) [0, 2, 3] rfl ?_
    subst hr_24
    subst ex_25
    refine g_eqw (ws' := [((dd 0), cD dd J sm), ((dd 1), .inl (g.2.1, 32, .inl (G 1))), ((dd 2), .inl (g.2.1, 48, .inl (G 2))), ((dd 3), .inl (g.2.1, 4, .inl (G 3))), ((dd 4), .inl (g.2.1, 4, .inl (G 4))), ((dd 5), .inl (g.2.1, 4, .inl (G 5))), ((dd 6), .inl (g.2.1, 4, .inl (G 6))), ((dd 7), .inl (g.2.1, 4, .inl (G 7))), ((dd 8), .inl (g.2.1, 4, .inl (G 8))), ((dd 9), .inl (g.2.1, 4, .inl (G 9))), ((dd 10), .inl (g.2.1, 4, .inl (G 10))), ((dd 11), .inl (g.2.1, 4, .inl (G 11))), ((dd 12), .inl (g.2.1, 4, .inl (G 12))), ((dd 13), .inl (g.2.1, 4, .inl (G 13))), ((dd 14), .inl (g.2.1, 200, .inl (d_dl J x_8 (G 14)))), ((dd 15), .inl (g.2.1, 3, .inl (G 15))), ((dd 16), .inl (g.2.1, 72, .inl (G 16))), ((dd 17), .inl (g.2.1, 64, .inl (G 17)))]) (by first | (simp only [d_its, d_dl, d_cl, mk_x, d_dc, if_neg c_9, if_pos hjd]; done) | (simp only [d_its, d_dl, d_cl, mk_x, d_dc, if_neg c_9, if_pos hjd]; rfl) | rfl) ?_
    exact j_10 _ (by first | rfl | (simp only [d_its, d_dl, d_cl, mk_x, d_dc, if_neg c_9, if_pos hjd]; done) | (simp only [d_its, d_dl, d_cl, mk_x, d_dc, if_neg c_9, if_pos hjd]; rfl))
