/-! contracts: the wrappers (2) -/
set_option maxRecDepth 100000
theorem kl_1 : Int64.ofNat ((1 : Fin 2) : Nat) = 1 := by decide
theorem nvX1_begin : yX1_begin.cls = RX1 ∧ yX1_begin.cls ≠ "java/lang/invoke/MethodHandle" ∧ yX1_begin.cls ≠ "java/lang/invoke/VarHandle" ∧ (parseMethodDescriptor yX1_begin.desc).map (fun d => d.parameters.length) = some 3 := by decide +kernel
theorem nvX1_end : yX1_end.cls = RX1 ∧ yX1_end.cls ≠ "java/lang/invoke/MethodHandle" ∧ yX1_end.cls ≠ "java/lang/invoke/VarHandle" ∧ (parseMethodDescriptor yX1_end.desc).map (fun d => d.parameters.length) = some 1 := by decide +kernel
theorem nvX1_play : yX1_play.cls = RX1 ∧ yX1_play.cls ≠ "java/lang/invoke/MethodHandle" ∧ yX1_play.cls ≠ "java/lang/invoke/VarHandle" ∧ (parseMethodDescriptor yX1_play.desc).map (fun d => d.parameters.length) = some 1 := by decide +kernel
theorem nvX1_setDelay : yX1_setDelay.cls = RX1 ∧ yX1_setDelay.cls ≠ "java/lang/invoke/MethodHandle" ∧ yX1_setDelay.cls ≠ "java/lang/invoke/VarHandle" ∧ (parseMethodDescriptor yX1_setDelay.desc).map (fun d => d.parameters.length) = some 3 := by decide +kernel
theorem nvX1_setTempo : yX1_setTempo.cls = RX1 ∧ yX1_setTempo.cls ≠ "java/lang/invoke/MethodHandle" ∧ yX1_setTempo.cls ≠ "java/lang/invoke/VarHandle" ∧ (parseMethodDescriptor yX1_setTempo.desc).map (fun d => d.parameters.length) = some 2 := by decide +kernel
theorem nvX1_setTrack : yX1_setTrack.cls = RX1 ∧ yX1_setTrack.cls ≠ "java/lang/invoke/MethodHandle" ∧ yX1_setTrack.cls ≠ "java/lang/invoke/VarHandle" ∧ (parseMethodDescriptor yX1_setTrack.desc).map (fun d => d.parameters.length) = some 2 := by decide +kernel
theorem nvX1_write : yX1_write.cls = RX1 ∧ yX1_write.cls ≠ "java/lang/invoke/MethodHandle" ∧ yX1_write.cls ≠ "java/lang/invoke/VarHandle" ∧ (parseMethodDescriptor yX1_write.desc).map (fun d => d.parameters.length) = some 5 := by decide +kernel
set_option maxHeartbeats 4000000 in
set_option maxRecDepth 100000 in
theorem m_X0_setDelay (l : Launch) (hst : l.stackTraces = false) (g : gG) (ad ed : Nat → Nat) (mi : Nat → Int32) (lo su : Int64) (en rw : Nat → Int32) (n we ba : Int32) (ou : Nat) (fo : Nat → Int64) : gHi l yX0_setDelay cX0_setDelay 6 .int [((0 : Nat), (12 : Nat), (15 : Nat), (15 : Nat))] 9 156 8 48 g [((ad 0), cM ad (ed 0) mi lo su), ((ed 0), cE (ed 1) (ed 7) (ad 0) en), ((ed 7), .inl (g.2.1, 200, .inl rw)), (ou, .inl (g.2.2.2.1, 1, .inr (.inl fo)))] [.ref (ad 0), .int n, .int we, .int ba, .ref ou] (fun (r : Int32) (_ : Unit) => r = (k_delay n we ba)) (fun _ : Unit => [((ad 0), cM ad (ed 0) (cn (k_delay n we ba) (s_del mi n we ba) mi) lo su), ((ed 0), cE (ed 1) (ed 7) (ad 0) (cn (k_delay n we ba) (upd en 0 0) en)), ((ed 7), .inl (g.2.1, 200, .inl (cn (k_delay n we ba) (rz 200 rw) rw))), (ou, .inl (g.2.2.2.1, 1, .inr (.inl (cn (k_delay n we ba) (vp_updL fo 0 (Int32.toInt64 (mi 3))) fo))))]) (fun E : String => False) := by
  intro sz
  refine g_hent (by decide) hst [(0, .ref (ad 0)), (1, .int n), (2, .int we), (3, .int ba), (4, .ref ou)] (Nat.le_of_ble_eq_true rfl) rfl ?_
  intro p e s m below meth c B hr hnm hsz hT
  have B : gB p l s m ([.ref (ad 0), .int n, .int we, .int ba, .ref ou] : List Value).toArray meth c RX0 cX0_setDelay 6 g (va_A [((ad 0), cM ad (ed 0) mi lo su), ((ed 0), cE (ed 1) (ed 7) (ad 0) en), ((ed 7), .inl (g.2.1, 200, .inl rw)), (ou, .inl (g.2.2.2.1, 1, .inr (.inl fo)))] sz) := B
  have hA9 : (va_A [((ad 0), cM ad (ed 0) mi lo su), ((ed 0), cE (ed 1) (ed 7) (ad 0) en), ((ed 7), .inl (g.2.1, 200, .inl rw)), (ou, .inl (g.2.2.2.1, 1, .inr (.inl fo)))] sz) = va_A [((ad 0), cM ad (ed 0) mi lo su), ((ed 0), cE (ed 1) (ed 7) (ad 0) en), ((ed 7), .inl (g.2.1, 200, .inl rw)), (ou, .inl (g.2.2.2.1, 1, .inr (.inl fo)))] s.heap.size := by rw [hsz]
  subst hsz
  refine g_aload B 4 dX0_setDelay_0 rfl ?_
  refine g_iconst (v := 0) B dX0_setDelay_2 kc_0 ?_
  refine g_aload_n B 0 0 dX0_setDelay_3 rfl rfl ?_
  refine g_iload_n B 1 1 dX0_setDelay_4 rfl rfl ?_
  refine g_iload_n B 2 2 dX0_setDelay_5 rfl rfl ?_
  refine g_iload_n B 3 3 dX0_setDelay_6 rfl rfl ?_
  refine g_xV_i (C := RX1) (T := TX1) (N := 17) (As := [.int n, .int we, .int ba]) B (m_X1_setDelay l hst g ad ed mi lo su en rw n we ba) 0 0 rfl rfl [0, 1, 2] [.int 0, .ref ou] (lw_V q799 q800 q801 q26 q802) nvX1_setDelay rfl rfl (fun _ => rfl) rfl rfl (Nat.le_of_ble_eq_true rfl) dX0_setDelay_7 ⟨Nat.le_of_ble_eq_true rfl, Nat.le_of_ble_eq_true rfl⟩ ⟨Nat.le_of_ble_eq_true rfl, Nat.le_of_ble_eq_true rfl⟩ (fun E hE => ?_) (fun r_1 ur_1 hr_1 => ?_)
  · skip
    obtain ⟨rfl, hK9⟩ := hE
    have hN9 : ¬ (k_delay n we ba) = 0 := by rw [hK9]; decide
    refine g_catch (E := eIA) (name := "java/lang/IllegalArgumentException") B [] ⟨0, 12, 15, 15⟩ [] hT (fun z hz => absurd hz List.not_mem_nil) (by decide) (by decide) q735 q588 (fun q9 => ?_)
    refine g_astore B [(5, .ref q9), (0, .ref (ad 0)), (1, .int n), (2, .int we), (3, .int ba), (4, .ref ou)] dX0_setDelay_15 (Nat.le_of_ble_eq_true rfl) rfl ?_
    refine g_iconst (v := 1) B dX0_setDelay_17 kc_1 ?_
    exact g_xiret B hr dX0_setDelay_18 (Nat.le_of_ble_eq_true rfl) (Nat.le_of_ble_eq_true rfl) () (hK9.symm) [0, 1, 2, 3] rfl (by simp only [cn, if_neg hN9]; rfl)
  have kr_1 : (k_delay n we ba) = 0 := hr_1.1
  replace hr_1 := hr_1.2
  refine g_eqw (ws' := [((ad 0), cM ad (ed 0) (s_del mi n we ba) lo su), ((ed 0), cE (ed 1) (ed 7) (ad 0) (upd en 0 0)), ((ed 7), .inl (g.2.1, 200, .inl (rz 200 rw))), (ou, .inl (g.2.2.2.1, 1, .inr (.inl fo)))]) rfl ?_
  have hr_1 : r_1 = mi 3 := hr_1
  refine g_i2l B dX0_setDelay_10 ?_
  refine g_topl (fun x_2 ex_2 => ?_)
  refine g_last B 3 [((ad 0), cM ad (ed 0) (s_del mi n we ba) lo su), ((ed 0), cE (ed 1) (ed 7) (ad 0) (upd en 0 0)), ((ed 7), .inl (g.2.1, 200, .inl (rz 200 rw))), (ou, .inl (g.2.2.2.1, 1, .inr (.inl (vp_updL fo 0 x_2))))] rfl (vpc rfl) rfl dX0_setDelay_11 ?_
  refine g_goto (tgt := 19) B dX0_setDelay_12 (by decide) ?_
  refine g_iconst (v := 0) B dX0_setDelay_19 kc_0 ?_
  subst hr_1
  subst ex_2
  exact g_xiret B hr dX0_setDelay_20 (Nat.le_of_ble_eq_true rfl) (Nat.le_of_ble_eq_true rfl) () (kr_1.symm) [0, 1, 2, 3] rfl (by simp only [cn, if_pos kr_1]; rfl)

set_option maxHeartbeats 4000000 in
set_option maxRecDepth 100000 in
theorem m_X0_begin (l : Launch) (hst : l.stackTraces = false) (g : gG) (ad ed : Nat → Nat) (mi : Nat → Int32) (lo su : Int64) (en : Nat → Int32) (ig vf : Nat → Nat → Int32) (i pi fo : Int32) (ou : Nat) (fo : Nat → Int64) : gHi l yX0_begin cX0_begin 6 .int [((0 : Nat), (12 : Nat), (15 : Nat), (13 : Nat)), ((0 : Nat), (12 : Nat), (19 : Nat), (15 : Nat))] 9 154 8 48 g [((ad 0), cM ad (ed 0) mi lo su), ((ad 2), cA (ad 3) al4), ((ad 3), .inl (g.2.2.1, 10, .inr (.inr (.inr (.inr (iq ad)))))), ((ad 4), cI (ig 0)), ((ad 5), cI (ig 1)), ((ad 6), cI (ig 2)), ((ad 7), cI (ig 3)), ((ed 0), cE (ed 1) (ed 7) (ad 0) en), ((ed 1), cA (ed 2) al4), ((ed 2), .inl (g.2.2.1, 10, .inr (.inr (.inr (.inr (vq ed)))))), ((ed 3), cV (vf 0)), ((ed 4), cV (vf 1)), ((ed 5), cV (vf 2)), ((ed 6), cV (vf 3)), (ou, .inl (g.2.2.2.1, 1, .inr (.inl fo)))] [.ref (ad 0), .int i, .int pi, .int fo, .ref ou] (fun (r : Int32) (_ : Unit) => r = (k_begin i pi fo)) (fun _ : Unit => [((ad 0), cM ad (ed 0) mi lo su), ((ad 2), cA (ad 3) al4), ((ad 3), .inl (g.2.2.1, 10, .inr (.inr (.inr (.inr (iq ad)))))), ((ad 4), cI (ig 0)), ((ad 5), cI (ig 1)), ((ad 6), cI (ig 2)), ((ad 7), cI (ig 3)), ((ed 0), cE (ed 1) (ed 7) (ad 0) (cn (k_begin i pi fo) (e_be vf en) en)), ((ed 1), cA (ed 2) al4), ((ed 2), .inl (g.2.2.1, 10, .inr (.inr (.inr (.inr (vq ed)))))), ((ed 3), cV ((cn (k_begin i pi fo) (e_bv vf en i pi fo (-1)) vf) 0)), ((ed 4), cV ((cn (k_begin i pi fo) (e_bv vf en i pi fo (-1)) vf) 1)), ((ed 5), cV ((cn (k_begin i pi fo) (e_bv vf en i pi fo (-1)) vf) 2)), ((ed 6), cV ((cn (k_begin i pi fo) (e_bv vf en i pi fo (-1)) vf) 3)), (ou, .inl (g.2.2.2.1, 1, .inr (.inl (cn (k_begin i pi fo) (vp_updL fo 0 (Int32.toInt64 (nI (v_nx vf)))) fo))))]) (fun E : String => False) := by
  intro sz
  refine g_hent (by decide) hst [(0, .ref (ad 0)), (1, .int i), (2, .int pi), (3, .int fo), (4, .ref ou)] (Nat.le_of_ble_eq_true rfl) rfl ?_
  intro p e s m below meth c B hr hnm hsz hT
  have B : gB p l s m ([.ref (ad 0), .int i, .int pi, .int fo, .ref ou] : List Value).toArray meth c RX0 cX0_begin 6 g (va_A [((ad 0), cM ad (ed 0) mi lo su), ((ad 2), cA (ad 3) al4), ((ad 3), .inl (g.2.2.1, 10, .inr (.inr (.inr (.inr (iq ad)))))), ((ad 4), cI (ig 0)), ((ad 5), cI (ig 1)), ((ad 6), cI (ig 2)), ((ad 7), cI (ig 3)), ((ed 0), cE (ed 1) (ed 7) (ad 0) en), ((ed 1), cA (ed 2) al4), ((ed 2), .inl (g.2.2.1, 10, .inr (.inr (.inr (.inr (vq ed)))))), ((ed 3), cV (vf 0)), ((ed 4), cV (vf 1)), ((ed 5), cV (vf 2)), ((ed 6), cV (vf 3)), (ou, .inl (g.2.2.2.1, 1, .inr (.inl fo)))] sz) := B
  have hA9 : (va_A [((ad 0), cM ad (ed 0) mi lo su), ((ad 2), cA (ad 3) al4), ((ad 3), .inl (g.2.2.1, 10, .inr (.inr (.inr (.inr (iq ad)))))), ((ad 4), cI (ig 0)), ((ad 5), cI (ig 1)), ((ad 6), cI (ig 2)), ((ad 7), cI (ig 3)), ((ed 0), cE (ed 1) (ed 7) (ad 0) en), ((ed 1), cA (ed 2) al4), ((ed 2), .inl (g.2.2.1, 10, .inr (.inr (.inr (.inr (vq ed)))))), ((ed 3), cV (vf 0)), ((ed 4), cV (vf 1)), ((ed 5), cV (vf 2)), ((ed 6), cV (vf 3)), (ou, .inl (g.2.2.2.1, 1, .inr (.inl fo)))] sz) = va_A [((ad 0), cM ad (ed 0) mi lo su), ((ad 2), cA (ad 3) al4), ((ad 3), .inl (g.2.2.1, 10, .inr (.inr (.inr (.inr (iq ad)))))), ((ad 4), cI (ig 0)), ((ad 5), cI (ig 1)), ((ad 6), cI (ig 2)), ((ad 7), cI (ig 3)), ((ed 0), cE (ed 1) (ed 7) (ad 0) en), ((ed 1), cA (ed 2) al4), ((ed 2), .inl (g.2.2.1, 10, .inr (.inr (.inr (.inr (vq ed)))))), ((ed 3), cV (vf 0)), ((ed 4), cV (vf 1)), ((ed 5), cV (vf 2)), ((ed 6), cV (vf 3)), (ou, .inl (g.2.2.2.1, 1, .inr (.inl fo)))] s.heap.size := by rw [hsz]
  subst hsz
  refine g_aload B 4 dX0_begin_0 rfl ?_
  refine g_iconst (v := 0) B dX0_begin_2 kc_0 ?_
  refine g_aload_n B 0 0 dX0_begin_3 rfl rfl ?_
  refine g_iload_n B 1 1 dX0_begin_4 rfl rfl ?_
  refine g_iload_n B 2 2 dX0_begin_5 rfl rfl ?_
  refine g_iload_n B 3 3 dX0_begin_6 rfl rfl ?_
  refine g_xV_i (C := RX1) (T := TX1) (N := 17) (As := [.int i, .int pi, .int fo]) B (m_X1_begin l hst g ad ed mi lo su en ig vf i pi fo) 0 0 rfl rfl [0, 1, 2, 3, 4, 5, 6, 7, 8, 9, 10, 11, 12, 13] [.int 0, .ref ou] (lw_V q806 q807 q808 q26 q809) nvX1_begin rfl rfl (fun _ => rfl) rfl rfl (Nat.le_of_ble_eq_true rfl) dX0_begin_7 ⟨Nat.le_of_ble_eq_true rfl, Nat.le_of_ble_eq_true rfl⟩ ⟨Nat.le_of_ble_eq_true rfl, Nat.le_of_ble_eq_true rfl⟩ (fun E hE => ?_) (fun r_1 ur_1 hr_1 => ?_)
  · skip
    rcases hE with hE | hE
    · skip
      obtain ⟨rfl, hK9⟩ := hE
      have hN9 : ¬ (k_begin i pi fo) = 0 := by rw [hK9]; decide
      refine g_catch (E := eIO) (name := "java/lang/IndexOutOfBoundsException") B [] ⟨0, 12, 15, 13⟩ [⟨0, 12, 19, 15⟩] hT (fun z hz => absurd hz List.not_mem_nil) (by decide) (by decide) q702 q674 (fun q9 => ?_)
      refine g_astore B [(5, .ref q9), (0, .ref (ad 0)), (1, .int i), (2, .int pi), (3, .int fo), (4, .ref ou)] dX0_begin_15 (Nat.le_of_ble_eq_true rfl) rfl ?_
      refine g_iconst (v := 1) B dX0_begin_17 kc_1 ?_
      exact g_xiret B hr dX0_begin_18 (Nat.le_of_ble_eq_true rfl) (Nat.le_of_ble_eq_true rfl) () (hK9.symm) [0, 1, 2, 3, 4, 5, 6, 7, 8, 9, 10, 11, 12, 13, 14] rfl (by simp only [cn, if_neg hN9]; rfl)
    · skip
      obtain ⟨rfl, hK9⟩ := hE
      have hN9 : ¬ (k_begin i pi fo) = 0 := by rw [hK9]; decide
      refine g_catch (E := eIA) (name := "java/lang/IllegalArgumentException") B [⟨0, 12, 15, 13⟩] ⟨0, 12, 19, 15⟩ [] hT (fun z hz => by rw [List.mem_singleton.mp hz]; exact ⟨by decide, _, q702, B.N.2⟩) (by decide) (by decide) q735 q588 (fun q9 => ?_)
      refine g_astore B [(5, .ref q9), (0, .ref (ad 0)), (1, .int i), (2, .int pi), (3, .int fo), (4, .ref ou)] dX0_begin_19 (Nat.le_of_ble_eq_true rfl) rfl ?_
      refine g_iconst (v := 2) B dX0_begin_21 kc_2 ?_
      exact g_xiret B hr dX0_begin_22 (Nat.le_of_ble_eq_true rfl) (Nat.le_of_ble_eq_true rfl) () (hK9.symm) [0, 1, 2, 3, 4, 5, 6, 7, 8, 9, 10, 11, 12, 13, 14] rfl (by simp only [cn, if_neg hN9]; rfl)
  have kr_1 : (k_begin i pi fo) = 0 := hr_1.1
  replace hr_1 := hr_1.2
  refine g_eqw (ws' := [((ad 0), cM ad (ed 0) mi lo su), ((ad 2), cA (ad 3) al4), ((ad 3), .inl (g.2.2.1, 10, .inr (.inr (.inr (.inr (iq ad)))))), ((ad 4), cI (ig 0)), ((ad 5), cI (ig 1)), ((ad 6), cI (ig 2)), ((ad 7), cI (ig 3)), ((ed 0), cE (ed 1) (ed 7) (ad 0) (e_be vf en)), ((ed 1), cA (ed 2) al4), ((ed 2), .inl (g.2.2.1, 10, .inr (.inr (.inr (.inr (vq ed)))))), ((ed 3), cV ((e_bv vf en i pi fo (-1)) 0)), ((ed 4), cV ((e_bv vf en i pi fo (-1)) 1)), ((ed 5), cV ((e_bv vf en i pi fo (-1)) 2)), ((ed 6), cV ((e_bv vf en i pi fo (-1)) 3)), (ou, .inl (g.2.2.2.1, 1, .inr (.inl fo)))]) rfl ?_
  have hr_1 : r_1 = nI (v_nx vf) := hr_1
  refine g_i2l B dX0_begin_10 ?_
  refine g_topl (fun x_2 ex_2 => ?_)
  refine g_last B 14 [((ad 0), cM ad (ed 0) mi lo su), ((ad 2), cA (ad 3) al4), ((ad 3), .inl (g.2.2.1, 10, .inr (.inr (.inr (.inr (iq ad)))))), ((ad 4), cI (ig 0)), ((ad 5), cI (ig 1)), ((ad 6), cI (ig 2)), ((ad 7), cI (ig 3)), ((ed 0), cE (ed 1) (ed 7) (ad 0) (e_be vf en)), ((ed 1), cA (ed 2) al4), ((ed 2), .inl (g.2.2.1, 10, .inr (.inr (.inr (.inr (vq ed)))))), ((ed 3), cV ((e_bv vf en i pi fo (-1)) 0)), ((ed 4), cV ((e_bv vf en i pi fo (-1)) 1)), ((ed 5), cV ((e_bv vf en i pi fo (-1)) 2)), ((ed 6), cV ((e_bv vf en i pi fo (-1)) 3)), (ou, .inl (g.2.2.2.1, 1, .inr (.inl (vp_updL fo 0 x_2))))] rfl (vpc rfl) rfl dX0_begin_11 ?_
  refine g_goto (tgt := 23) B dX0_begin_12 (by decide) ?_
  refine g_iconst (v := 0) B dX0_begin_23 kc_0 ?_
  subst hr_1
  subst ex_2
  exact g_xiret B hr dX0_begin_24 (Nat.le_of_ble_eq_true rfl) (Nat.le_of_ble_eq_true rfl) () (kr_1.symm) [0, 1, 2, 3, 4, 5, 6, 7, 8, 9, 10, 11, 12, 13, 14] rfl (by simp only [cn, if_pos kr_1]; rfl)

set_option maxHeartbeats 4000000 in
set_option maxRecDepth 100000 in
theorem m_X0_end (l : Launch) (hst : l.stackTraces = false) (g : gG) (ad ed : Nat → Nat) (mi : Nat → Int32) (lo su : Int64) (en : Nat → Int32) (vf : Nat → Nat → Int32) (i : Int32) (ou : Nat) (fo : Nat → Int64) : gHi l yX0_end cX0_end 4 .int [((0 : Nat), (9 : Nat), (12 : Nat), (13 : Nat))] 9 154 8 48 g [((ad 0), cM ad (ed 0) mi lo su), ((ed 0), cE (ed 1) (ed 7) (ad 0) en), ((ed 1), cA (ed 2) al4), ((ed 2), .inl (g.2.2.1, 10, .inr (.inr (.inr (.inr (vq ed)))))), ((ed 3), cV (vf 0)), ((ed 4), cV (vf 1)), ((ed 5), cV (vf 2)), ((ed 6), cV (vf 3)), (ou, .inl (g.2.2.2.1, 1, .inr (.inl fo)))] [.ref (ad 0), .int i, .ref ou] (fun (r : Int32) (_ : Unit) => r = (k_end i)) (fun _ : Unit => [((ad 0), cM ad (ed 0) mi lo su), ((ed 0), cE (ed 1) (ed 7) (ad 0) en), ((ed 1), cA (ed 2) al4), ((ed 2), .inl (g.2.2.1, 10, .inr (.inr (.inr (.inr (vq ed)))))), ((ed 3), cV ((cn (k_end i) (va_up vf i.toNatClampNeg (v_end (vf i.toNatClampNeg))) vf) 0)), ((ed 4), cV ((cn (k_end i) (va_up vf i.toNatClampNeg (v_end (vf i.toNatClampNeg))) vf) 1)), ((ed 5), cV ((cn (k_end i) (va_up vf i.toNatClampNeg (v_end (vf i.toNatClampNeg))) vf) 2)), ((ed 6), cV ((cn (k_end i) (va_up vf i.toNatClampNeg (v_end (vf i.toNatClampNeg))) vf) 3)), (ou, .inl (g.2.2.2.1, 1, .inr (.inl (cn (k_end i) (vp_updL fo 0 (Int32.toInt64 (vf i.toNatClampNeg 0))) fo))))]) (fun E : String => False) := by
  intro sz
  refine g_hent (by decide) hst [(0, .ref (ad 0)), (1, .int i), (2, .ref ou)] (Nat.le_of_ble_eq_true rfl) rfl ?_
  intro p e s m below meth c B hr hnm hsz hT
  have B : gB p l s m ([.ref (ad 0), .int i, .ref ou] : List Value).toArray meth c RX0 cX0_end 4 g (va_A [((ad 0), cM ad (ed 0) mi lo su), ((ed 0), cE (ed 1) (ed 7) (ad 0) en), ((ed 1), cA (ed 2) al4), ((ed 2), .inl (g.2.2.1, 10, .inr (.inr (.inr (.inr (vq ed)))))), ((ed 3), cV (vf 0)), ((ed 4), cV (vf 1)), ((ed 5), cV (vf 2)), ((ed 6), cV (vf 3)), (ou, .inl (g.2.2.2.1, 1, .inr (.inl fo)))] sz) := B
  have hA9 : (va_A [((ad 0), cM ad (ed 0) mi lo su), ((ed 0), cE (ed 1) (ed 7) (ad 0) en), ((ed 1), cA (ed 2) al4), ((ed 2), .inl (g.2.2.1, 10, .inr (.inr (.inr (.inr (vq ed)))))), ((ed 3), cV (vf 0)), ((ed 4), cV (vf 1)), ((ed 5), cV (vf 2)), ((ed 6), cV (vf 3)), (ou, .inl (g.2.2.2.1, 1, .inr (.inl fo)))] sz) = va_A [((ad 0), cM ad (ed 0) mi lo su), ((ed 0), cE (ed 1) (ed 7) (ad 0) en), ((ed 1), cA (ed 2) al4), ((ed 2), .inl (g.2.2.1, 10, .inr (.inr (.inr (.inr (vq ed)))))), ((ed 3), cV (vf 0)), ((ed 4), cV (vf 1)), ((ed 5), cV (vf 2)), ((ed 6), cV (vf 3)), (ou, .inl (g.2.2.2.1, 1, .inr (.inl fo)))] s.heap.size := by rw [hsz]
  subst hsz
  refine g_aload_n B 2 2 dX0_end_0 rfl rfl ?_
  refine g_iconst (v := 0) B dX0_end_1 kc_0 ?_
  refine g_aload_n B 0 0 dX0_end_2 rfl rfl ?_
  refine g_iload_n B 1 1 dX0_end_3 rfl rfl ?_
  refine g_xV_i (C := RX1) (T := TX1) (N := 17) (As := [.int i]) B (m_X1_end l hst g ad ed mi lo su en vf i) 0 0 rfl rfl [0, 1, 2, 3, 4, 5, 6, 7] [.int 0, .ref ou] (lw_V q814 q815 q816 q26 q817) nvX1_end rfl rfl (fun _ => rfl) rfl rfl (Nat.le_of_ble_eq_true rfl) dX0_end_4 ⟨Nat.le_of_ble_eq_true rfl, Nat.le_of_ble_eq_true rfl⟩ ⟨Nat.le_of_ble_eq_true rfl, Nat.le_of_ble_eq_true rfl⟩ (fun E hE => ?_) (fun r_1 ur_1 hr_1 => ?_)
  · skip
    obtain ⟨rfl, hK9⟩ := hE
    have hN9 : ¬ (k_end i) = 0 := by rw [hK9]; decide
    refine g_catch (E := eIO) (name := "java/lang/IndexOutOfBoundsException") B [] ⟨0, 9, 12, 13⟩ [] hT (fun z hz => absurd hz List.not_mem_nil) (by decide) (by decide) q702 q674 (fun q9 => ?_)
    refine g_astore_n B 3 [(3, .ref q9), (0, .ref (ad 0)), (1, .int i), (2, .ref ou)] dX0_end_12 rfl (Nat.le_of_ble_eq_true rfl) rfl ?_
    refine g_iconst (v := 1) B dX0_end_13 kc_1 ?_
    exact g_xiret B hr dX0_end_14 (Nat.le_of_ble_eq_true rfl) (Nat.le_of_ble_eq_true rfl) () (hK9.symm) [0, 1, 2, 3, 4, 5, 6, 7, 8] rfl (by simp only [cn, if_neg hN9]; rfl)
  have kr_1 : (k_end i) = 0 := hr_1.1
  replace hr_1 := hr_1.2
  refine g_eqw (ws' := [((ad 0), cM ad (ed 0) mi lo su), ((ed 0), cE (ed 1) (ed 7) (ad 0) en), ((ed 1), cA (ed 2) al4), ((ed 2), .inl (g.2.2.1, 10, .inr (.inr (.inr (.inr (vq ed)))))), ((ed 3), cV ((va_up vf i.toNatClampNeg (v_end (vf i.toNatClampNeg))) 0)), ((ed 4), cV ((va_up vf i.toNatClampNeg (v_end (vf i.toNatClampNeg))) 1)), ((ed 5), cV ((va_up vf i.toNatClampNeg (v_end (vf i.toNatClampNeg))) 2)), ((ed 6), cV ((va_up vf i.toNatClampNeg (v_end (vf i.toNatClampNeg))) 3)), (ou, .inl (g.2.2.2.1, 1, .inr (.inl fo)))]) rfl ?_
  have hr_1 : r_1 = vf i.toNatClampNeg 0 := hr_1
  refine g_i2l B dX0_end_7 ?_
  refine g_topl (fun x_2 ex_2 => ?_)
  refine g_last B 8 [((ad 0), cM ad (ed 0) mi lo su), ((ed 0), cE (ed 1) (ed 7) (ad 0) en), ((ed 1), cA (ed 2) al4), ((ed 2), .inl (g.2.2.1, 10, .inr (.inr (.inr (.inr (vq ed)))))), ((ed 3), cV ((va_up vf i.toNatClampNeg (v_end (vf i.toNatClampNeg))) 0)), ((ed 4), cV ((va_up vf i.toNatClampNeg (v_end (vf i.toNatClampNeg))) 1)), ((ed 5), cV ((va_up vf i.toNatClampNeg (v_end (vf i.toNatClampNeg))) 2)), ((ed 6), cV ((va_up vf i.toNatClampNeg (v_end (vf i.toNatClampNeg))) 3)), (ou, .inl (g.2.2.2.1, 1, .inr (.inl (vp_updL fo 0 x_2))))] rfl (vpc rfl) rfl dX0_end_8 ?_
  refine g_goto (tgt := 15) B dX0_end_9 (by decide) ?_
  refine g_iconst (v := 0) B dX0_end_15 kc_0 ?_
  subst hr_1
  subst ex_2
  exact g_xiret B hr dX0_end_16 (Nat.le_of_ble_eq_true rfl) (Nat.le_of_ble_eq_true rfl) () (kr_1.symm) [0, 1, 2, 3, 4, 5, 6, 7, 8] rfl (by simp only [cn, if_pos kr_1]; rfl)

set_option maxHeartbeats 4000000 in
set_option maxRecDepth 100000 in
theorem m_X0_write (l : Launch) (hst : l.stackTraces = false) (g : gG) (ad : Nat → Nat) (e0 : Nat) (mi : Nat → Int32) (lo su : Int64) (tr : Nat → Nat → Int32) (tw : Nat → Nat → Nat → Int32) (t j pi fo ga : Int32) (ou : Nat) (fo : Nat → Int64) : gHi l yX0_write cX0_write 8 .int [((0 : Nat), (16 : Nat), (19 : Nat), (13 : Nat)), ((0 : Nat), (16 : Nat), (23 : Nat), (15 : Nat))] 9 159 8 48 g [((ad 0), cM ad e0 mi lo su), ((ad 8), cA (ad 9) al3), ((ad 9), .inl (g.2.2.1, 10, .inr (.inr (.inr (.inr (tq ad)))))), ((ad 10), cT (ad 13) (ad 16) (ad 19) (tr 0)), ((ad 11), cT (ad 14) (ad 17) (ad 20) (tr 1)), ((ad 12), cT (ad 15) (ad 18) (ad 21) (tr 2)), ((ad 13), .inl (g.2.1, 8, .inl (tw 0 0))), ((ad 14), .inl (g.2.1, 8, .inl (tw 1 0))), ((ad 15), .inl (g.2.1, 8, .inl (tw 2 0))), ((ad 16), .inl (g.2.1, 8, .inl (tw 0 1))), ((ad 17), .inl (g.2.1, 8, .inl (tw 1 1))), ((ad 18), .inl (g.2.1, 8, .inl (tw 2 1))), ((ad 19), .inl (g.2.1, 8, .inl (tw 0 2))), ((ad 20), .inl (g.2.1, 8, .inl (tw 1 2))), ((ad 21), .inl (g.2.1, 8, .inl (tw 2 2))), (ou, .inl (g.2.2.2.1, 1, .inr (.inl fo)))] [.ref (ad 0), .int t, .int j, .int pi, .int fo, .int ga, .ref ou] (fun (r : Int32) (_ : Unit) => r = (k_write t j pi fo ga)) (fun _ : Unit => [((ad 0), cM ad e0 mi lo su), ((ad 8), cA (ad 9) al3), ((ad 9), .inl (g.2.2.1, 10, .inr (.inr (.inr (.inr (tq ad)))))), ((ad 10), cT (ad 13) (ad 16) (ad 19) (tr 0)), ((ad 11), cT (ad 14) (ad 17) (ad 20) (tr 1)), ((ad 12), cT (ad 15) (ad 18) (ad 21) (tr 2)), ((ad 13), .inl (g.2.1, 8, .inl ((cn (k_write t j pi fo ga) (s_wr tw t.toNatClampNeg j.toNatClampNeg pi fo ga) tw) 0 0))), ((ad 14), .inl (g.2.1, 8, .inl ((cn (k_write t j pi fo ga) (s_wr tw t.toNatClampNeg j.toNatClampNeg pi fo ga) tw) 1 0))), ((ad 15), .inl (g.2.1, 8, .inl ((cn (k_write t j pi fo ga) (s_wr tw t.toNatClampNeg j.toNatClampNeg pi fo ga) tw) 2 0))), ((ad 16), .inl (g.2.1, 8, .inl ((cn (k_write t j pi fo ga) (s_wr tw t.toNatClampNeg j.toNatClampNeg pi fo ga) tw) 0 1))), ((ad 17), .inl (g.2.1, 8, .inl ((cn (k_write t j pi fo ga) (s_wr tw t.toNatClampNeg j.toNatClampNeg pi fo ga) tw) 1 1))), ((ad 18), .inl (g.2.1, 8, .inl ((cn (k_write t j pi fo ga) (s_wr tw t.toNatClampNeg j.toNatClampNeg pi fo ga) tw) 2 1))), ((ad 19), .inl (g.2.1, 8, .inl ((cn (k_write t j pi fo ga) (s_wr tw t.toNatClampNeg j.toNatClampNeg pi fo ga) tw) 0 2))), ((ad 20), .inl (g.2.1, 8, .inl ((cn (k_write t j pi fo ga) (s_wr tw t.toNatClampNeg j.toNatClampNeg pi fo ga) tw) 1 2))), ((ad 21), .inl (g.2.1, 8, .inl ((cn (k_write t j pi fo ga) (s_wr tw t.toNatClampNeg j.toNatClampNeg pi fo ga) tw) 2 2))), (ou, .inl (g.2.2.2.1, 1, .inr (.inl (cn (k_write t j pi fo ga) (vp_updL fo 0 (Int32.toInt64 (tw t.toNatClampNeg 0 j.toNatClampNeg))) fo))))]) (fun E : String => False) := by
  intro sz
  refine g_hent (by decide) hst [(0, .ref (ad 0)), (1, .int t), (2, .int j), (3, .int pi), (4, .int fo), (5, .int ga), (6, .ref ou)] (Nat.le_of_ble_eq_true rfl) rfl ?_
  intro p e s m below meth c B hr hnm hsz hT
  have B : gB p l s m ([.ref (ad 0), .int t, .int j, .int pi, .int fo, .int ga, .ref ou] : List Value).toArray meth c RX0 cX0_write 8 g (va_A [((ad 0), cM ad e0 mi lo su), ((ad 8), cA (ad 9) al3), ((ad 9), .inl (g.2.2.1, 10, .inr (.inr (.inr (.inr (tq ad)))))), ((ad 10), cT (ad 13) (ad 16) (ad 19) (tr 0)), ((ad 11), cT (ad 14) (ad 17) (ad 20) (tr 1)), ((ad 12), cT (ad 15) (ad 18) (ad 21) (tr 2)), ((ad 13), .inl (g.2.1, 8, .inl (tw 0 0))), ((ad 14), .inl (g.2.1, 8, .inl (tw 1 0))), ((ad 15), .inl (g.2.1, 8, .inl (tw 2 0))), ((ad 16), .inl (g.2.1, 8, .inl (tw 0 1))), ((ad 17), .inl (g.2.1, 8, .inl (tw 1 1))), ((ad 18), .inl (g.2.1, 8, .inl (tw 2 1))), ((ad 19), .inl (g.2.1, 8, .inl (tw 0 2))), ((ad 20), .inl (g.2.1, 8, .inl (tw 1 2))), ((ad 21), .inl (g.2.1, 8, .inl (tw 2 2))), (ou, .inl (g.2.2.2.1, 1, .inr (.inl fo)))] sz) := B
  have hA9 : (va_A [((ad 0), cM ad e0 mi lo su), ((ad 8), cA (ad 9) al3), ((ad 9), .inl (g.2.2.1, 10, .inr (.inr (.inr (.inr (tq ad)))))), ((ad 10), cT (ad 13) (ad 16) (ad 19) (tr 0)), ((ad 11), cT (ad 14) (ad 17) (ad 20) (tr 1)), ((ad 12), cT (ad 15) (ad 18) (ad 21) (tr 2)), ((ad 13), .inl (g.2.1, 8, .inl (tw 0 0))), ((ad 14), .inl (g.2.1, 8, .inl (tw 1 0))), ((ad 15), .inl (g.2.1, 8, .inl (tw 2 0))), ((ad 16), .inl (g.2.1, 8, .inl (tw 0 1))), ((ad 17), .inl (g.2.1, 8, .inl (tw 1 1))), ((ad 18), .inl (g.2.1, 8, .inl (tw 2 1))), ((ad 19), .inl (g.2.1, 8, .inl (tw 0 2))), ((ad 20), .inl (g.2.1, 8, .inl (tw 1 2))), ((ad 21), .inl (g.2.1, 8, .inl (tw 2 2))), (ou, .inl (g.2.2.2.1, 1, .inr (.inl fo)))] sz) = va_A [((ad 0), cM ad e0 mi lo su), ((ad 8), cA (ad 9) al3), ((ad 9), .inl (g.2.2.1, 10, .inr (.inr (.inr (.inr (tq ad)))))), ((ad 10), cT (ad 13) (ad 16) (ad 19) (tr 0)), ((ad 11), cT (ad 14) (ad 17) (ad 20) (tr 1)), ((ad 12), cT (ad 15) (ad 18) (ad 21) (tr 2)), ((ad 13), .inl (g.2.1, 8, .inl (tw 0 0))), ((ad 14), .inl (g.2.1, 8, .inl (tw 1 0))), ((ad 15), .inl (g.2.1, 8, .inl (tw 2 0))), ((ad 16), .inl (g.2.1, 8, .inl (tw 0 1))), ((ad 17), .inl (g.2.1, 8, .inl (tw 1 1))), ((ad 18), .inl (g.2.1, 8, .inl (tw 2 1))), ((ad 19), .inl (g.2.1, 8, .inl (tw 0 2))), ((ad 20), .inl (g.2.1, 8, .inl (tw 1 2))), ((ad 21), .inl (g.2.1, 8, .inl (tw 2 2))), (ou, .inl (g.2.2.2.1, 1, .inr (.inl fo)))] s.heap.size := by rw [hsz]
  subst hsz
  refine g_aload B 6 dX0_write_0 rfl ?_
  refine g_iconst (v := 0) B dX0_write_2 kc_0 ?_
  refine g_aload_n B 0 0 dX0_write_3 rfl rfl ?_
  refine g_iload_n B 1 1 dX0_write_4 rfl rfl ?_
  refine g_iload_n B 2 2 dX0_write_5 rfl rfl ?_
  refine g_iload_n B 3 3 dX0_write_6 rfl rfl ?_
  refine g_iload B 4 dX0_write_7 rfl ?_
  refine g_iload B 5 dX0_write_9 rfl ?_
  refine g_xV_i (C := RX1) (T := TX1) (N := 17) (As := [.int t, .int j, .int pi, .int fo, .int ga]) B (m_X1_write l hst g ad e0 mi lo su tr tw t j pi fo ga) 0 0 rfl rfl [0, 1, 2, 3, 4, 5, 6, 7, 8, 9, 10, 11, 12, 13, 14] [.int 0, .ref ou] (lw_V q822 q823 q824 q26 q825) nvX1_write rfl rfl (fun _ => rfl) rfl rfl (Nat.le_of_ble_eq_true rfl) dX0_write_11 ⟨Nat.le_of_ble_eq_true rfl, Nat.le_of_ble_eq_true rfl⟩ ⟨Nat.le_of_ble_eq_true rfl, Nat.le_of_ble_eq_true rfl⟩ (fun E hE => ?_) (fun r_1 ur_1 hr_1 => ?_)
  · skip
    rcases hE with hE | hE
    · skip
      obtain ⟨rfl, hK9⟩ := hE
      have hN9 : ¬ (k_write t j pi fo ga) = 0 := by rw [hK9]; decide
      refine g_catch (E := eIO) (name := "java/lang/IndexOutOfBoundsException") B [] ⟨0, 16, 19, 13⟩ [⟨0, 16, 23, 15⟩] hT (fun z hz => absurd hz List.not_mem_nil) (by decide) (by decide) q702 q674 (fun q9 => ?_)
      refine g_astore B [(7, .ref q9), (0, .ref (ad 0)), (1, .int t), (2, .int j), (3, .int pi), (4, .int fo), (5, .int ga), (6, .ref ou)] dX0_write_19 (Nat.le_of_ble_eq_true rfl) rfl ?_
      refine g_iconst (v := 1) B dX0_write_21 kc_1 ?_
      exact g_xiret B hr dX0_write_22 (Nat.le_of_ble_eq_true rfl) (Nat.le_of_ble_eq_true rfl) () (hK9.symm) [0, 1, 2, 3, 4, 5, 6, 7, 8, 9, 10, 11, 12, 13, 14, 15] rfl (by simp only [cn, if_neg hN9]; rfl)
    · skip
      obtain ⟨rfl, hK9⟩ := hE
      have hN9 : ¬ (k_write t j pi fo ga) = 0 := by rw [hK9]; decide
      refine g_catch (E := eIA) (name := "java/lang/IllegalArgumentException") B [⟨0, 16, 19, 13⟩] ⟨0, 16, 23, 15⟩ [] hT (fun z hz => by rw [List.mem_singleton.mp hz]; exact ⟨by decide, _, q702, B.N.2⟩) (by decide) (by decide) q735 q588 (fun q9 => ?_)
      refine g_astore B [(7, .ref q9), (0, .ref (ad 0)), (1, .int t), (2, .int j), (3, .int pi), (4, .int fo), (5, .int ga), (6, .ref ou)] dX0_write_23 (Nat.le_of_ble_eq_true rfl) rfl ?_
      refine g_iconst (v := 2) B dX0_write_25 kc_2 ?_
      exact g_xiret B hr dX0_write_26 (Nat.le_of_ble_eq_true rfl) (Nat.le_of_ble_eq_true rfl) () (hK9.symm) [0, 1, 2, 3, 4, 5, 6, 7, 8, 9, 10, 11, 12, 13, 14, 15] rfl (by simp only [cn, if_neg hN9]; rfl)
  have kr_1 : (k_write t j pi fo ga) = 0 := hr_1.1
  replace hr_1 := hr_1.2
  refine g_eqw (ws' := [((ad 0), cM ad e0 mi lo su), ((ad 8), cA (ad 9) al3), ((ad 9), .inl (g.2.2.1, 10, .inr (.inr (.inr (.inr (tq ad)))))), ((ad 10), cT (ad 13) (ad 16) (ad 19) (tr 0)), ((ad 11), cT (ad 14) (ad 17) (ad 20) (tr 1)), ((ad 12), cT (ad 15) (ad 18) (ad 21) (tr 2)), ((ad 13), .inl (g.2.1, 8, .inl ((s_wr tw t.toNatClampNeg j.toNatClampNeg pi fo ga) 0 0))), ((ad 14), .inl (g.2.1, 8, .inl ((s_wr tw t.toNatClampNeg j.toNatClampNeg pi fo ga) 1 0))), ((ad 15), .inl (g.2.1, 8, .inl ((s_wr tw t.toNatClampNeg j.toNatClampNeg pi fo ga) 2 0))), ((ad 16), .inl (g.2.1, 8, .inl ((s_wr tw t.toNatClampNeg j.toNatClampNeg pi fo ga) 0 1))), ((ad 17), .inl (g.2.1, 8, .inl ((s_wr tw t.toNatClampNeg j.toNatClampNeg pi fo ga) 1 1))), ((ad 18), .inl (g.2.1, 8, .inl ((s_wr tw t.toNatClampNeg j.toNatClampNeg pi fo ga) 2 1))), ((ad 19), .inl (g.2.1, 8, .inl ((s_wr tw t.toNatClampNeg j.toNatClampNeg pi fo ga) 0 2))), ((ad 20), .inl (g.2.1, 8, .inl ((s_wr tw t.toNatClampNeg j.toNatClampNeg pi fo ga) 1 2))), ((ad 21), .inl (g.2.1, 8, .inl ((s_wr tw t.toNatClampNeg j.toNatClampNeg pi fo ga) 2 2))), (ou, .inl (g.2.2.2.1, 1, .inr (.inl fo)))]) rfl ?_
  have hr_1 : r_1 = tw t.toNatClampNeg 0 j.toNatClampNeg := hr_1
  refine g_i2l B dX0_write_14 ?_
  refine g_topl (fun x_2 ex_2 => ?_)
  refine g_last B 15 [((ad 0), cM ad e0 mi lo su), ((ad 8), cA (ad 9) al3), ((ad 9), .inl (g.2.2.1, 10, .inr (.inr (.inr (.inr (tq ad)))))), ((ad 10), cT (ad 13) (ad 16) (ad 19) (tr 0)), ((ad 11), cT (ad 14) (ad 17) (ad 20) (tr 1)), ((ad 12), cT (ad 15) (ad 18) (ad 21) (tr 2)), ((ad 13), .inl (g.2.1, 8, .inl ((s_wr tw t.toNatClampNeg j.toNatClampNeg pi fo ga) 0 0))), ((ad 14), .inl (g.2.1, 8, .inl ((s_wr tw t.toNatClampNeg j.toNatClampNeg pi fo ga) 1 0))), ((ad 15), .inl (g.2.1, 8, .inl ((s_wr tw t.toNatClampNeg j.toNatClampNeg pi fo ga) 2 0))), ((ad 16), .inl (g.2.1, 8, .inl ((s_wr tw t.toNatClampNeg j.toNatClampNeg pi fo ga) 0 1))), ((ad 17), .inl (g.2.1, 8, .inl ((s_wr tw t.toNatClampNeg j.toNatClampNeg pi fo ga) 1 1))), ((ad 18), .inl (g.2.1, 8, .inl ((s_wr tw t.toNatClampNeg j.toNatClampNeg pi fo ga) 2 1))), ((ad 19), .inl (g.2.1, 8, .inl ((s_wr tw t.toNatClampNeg j.toNatClampNeg pi fo ga) 0 2))), ((ad 20), .inl (g.2.1, 8, .inl ((s_wr tw t.toNatClampNeg j.toNatClampNeg pi fo ga) 1 2))), ((ad 21), .inl (g.2.1, 8, .inl ((s_wr tw t.toNatClampNeg j.toNatClampNeg pi fo ga) 2 2))), (ou, .inl (g.2.2.2.1, 1, .inr (.inl (vp_updL fo 0 x_2))))] rfl (vpc rfl) rfl dX0_write_15 ?_
  refine g_goto (tgt := 27) B dX0_write_16 (by decide) ?_
  refine g_iconst (v := 0) B dX0_write_27 kc_0 ?_
  subst hr_1
  subst ex_2
  exact g_xiret B hr dX0_write_28 (Nat.le_of_ble_eq_true rfl) (Nat.le_of_ble_eq_true rfl) () (kr_1.symm) [0, 1, 2, 3, 4, 5, 6, 7, 8, 9, 10, 11, 12, 13, 14, 15] rfl (by simp only [cn, if_pos kr_1]; rfl)

set_option maxHeartbeats 4000000 in
set_option maxRecDepth 100000 in
theorem m_X0_setTrack (l : Launch) (hst : l.stackTraces = false) (g : gG) (ad : Nat → Nat) (e0 : Nat) (mi : Nat → Int32) (lo su : Int64) (tr ig : Nat → Nat → Int32) (tw : Nat → Nat → Nat → Int32) (t i : Int32) (ou : Nat) (fo : Nat → Int64) : gHi l yX0_setTrack cX0_setTrack 5 .int [((0 : Nat), (10 : Nat), (13 : Nat), (13 : Nat))] 9 155 8 48 g [((ad 0), cM ad e0 mi lo su), ((ad 8), cA (ad 9) al3), ((ad 9), .inl (g.2.2.1, 10, .inr (.inr (.inr (.inr (tq ad)))))), ((ad 10), cT (ad 13) (ad 16) (ad 19) (tr 0)), ((ad 11), cT (ad 14) (ad 17) (ad 20) (tr 1)), ((ad 12), cT (ad 15) (ad 18) (ad 21) (tr 2)), ((ad 13), .inl (g.2.1, 8, .inl (tw 0 0))), ((ad 14), .inl (g.2.1, 8, .inl (tw 1 0))), ((ad 15), .inl (g.2.1, 8, .inl (tw 2 0))), ((ad 16), .inl (g.2.1, 8, .inl (tw 0 1))), ((ad 17), .inl (g.2.1, 8, .inl (tw 1 1))), ((ad 18), .inl (g.2.1, 8, .inl (tw 2 1))), ((ad 19), .inl (g.2.1, 8, .inl (tw 0 2))), ((ad 20), .inl (g.2.1, 8, .inl (tw 1 2))), ((ad 21), .inl (g.2.1, 8, .inl (tw 2 2))), ((ad 2), cA (ad 3) al4), ((ad 3), .inl (g.2.2.1, 10, .inr (.inr (.inr (.inr (iq ad)))))), ((ad 4), cI (ig 0)), ((ad 5), cI (ig 1)), ((ad 6), cI (ig 2)), ((ad 7), cI (ig 3)), (ou, .inl (g.2.2.2.1, 1, .inr (.inl fo)))] [.ref (ad 0), .int t, .int i, .ref ou] (fun (r : Int32) (_ : Unit) => r = (k_track t i)) (fun _ : Unit => [((ad 0), cM ad e0 mi lo su), ((ad 8), cA (ad 9) al3), ((ad 9), .inl (g.2.2.1, 10, .inr (.inr (.inr (.inr (tq ad)))))), ((ad 10), cT (ad 13) (ad 16) (ad 19) ((cn (k_track t i) (va_up tr t.toNatClampNeg (upd (tr t.toNatClampNeg) 0 i)) tr) 0)), ((ad 11), cT (ad 14) (ad 17) (ad 20) ((cn (k_track t i) (va_up tr t.toNatClampNeg (upd (tr t.toNatClampNeg) 0 i)) tr) 1)), ((ad 12), cT (ad 15) (ad 18) (ad 21) ((cn (k_track t i) (va_up tr t.toNatClampNeg (upd (tr t.toNatClampNeg) 0 i)) tr) 2)), ((ad 13), .inl (g.2.1, 8, .inl (tw 0 0))), ((ad 14), .inl (g.2.1, 8, .inl (tw 1 0))), ((ad 15), .inl (g.2.1, 8, .inl (tw 2 0))), ((ad 16), .inl (g.2.1, 8, .inl (tw 0 1))), ((ad 17), .inl (g.2.1, 8, .inl (tw 1 1))), ((ad 18), .inl (g.2.1, 8, .inl (tw 2 1))), ((ad 19), .inl (g.2.1, 8, .inl (tw 0 2))), ((ad 20), .inl (g.2.1, 8, .inl (tw 1 2))), ((ad 21), .inl (g.2.1, 8, .inl (tw 2 2))), ((ad 2), cA (ad 3) al4), ((ad 3), .inl (g.2.2.1, 10, .inr (.inr (.inr (.inr (iq ad)))))), ((ad 4), cI (ig 0)), ((ad 5), cI (ig 1)), ((ad 6), cI (ig 2)), ((ad 7), cI (ig 3)), (ou, .inl (g.2.2.2.1, 1, .inr (.inl (cn (k_track t i) (vp_updL fo 0 (Int32.toInt64 (tr t.toNatClampNeg 0))) fo))))]) (fun E : String => False) := by
  intro sz
  refine g_hent (by decide) hst [(0, .ref (ad 0)), (1, .int t), (2, .int i), (3, .ref ou)] (Nat.le_of_ble_eq_true rfl) rfl ?_
  intro p e s m below meth c B hr hnm hsz hT
  have B : gB p l s m ([.ref (ad 0), .int t, .int i, .ref ou] : List Value).toArray meth c RX0 cX0_setTrack 5 g (va_A [((ad 0), cM ad e0 mi lo su), ((ad 8), cA (ad 9) al3), ((ad 9), .inl (g.2.2.1, 10, .inr (.inr (.inr (.inr (tq ad)))))), ((ad 10), cT (ad 13) (ad 16) (ad 19) (tr 0)), ((ad 11), cT (ad 14) (ad 17) (ad 20) (tr 1)), ((ad 12), cT (ad 15) (ad 18) (ad 21) (tr 2)), ((ad 13), .inl (g.2.1, 8, .inl (tw 0 0))), ((ad 14), .inl (g.2.1, 8, .inl (tw 1 0))), ((ad 15), .inl (g.2.1, 8, .inl (tw 2 0))), ((ad 16), .inl (g.2.1, 8, .inl (tw 0 1))), ((ad 17), .inl (g.2.1, 8, .inl (tw 1 1))), ((ad 18), .inl (g.2.1, 8, .inl (tw 2 1))), ((ad 19), .inl (g.2.1, 8, .inl (tw 0 2))), ((ad 20), .inl (g.2.1, 8, .inl (tw 1 2))), ((ad 21), .inl (g.2.1, 8, .inl (tw 2 2))), ((ad 2), cA (ad 3) al4), ((ad 3), .inl (g.2.2.1, 10, .inr (.inr (.inr (.inr (iq ad)))))), ((ad 4), cI (ig 0)), ((ad 5), cI (ig 1)), ((ad 6), cI (ig 2)), ((ad 7), cI (ig 3)), (ou, .inl (g.2.2.2.1, 1, .inr (.inl fo)))] sz) := B
  have hA9 : (va_A [((ad 0), cM ad e0 mi lo su), ((ad 8), cA (ad 9) al3), ((ad 9), .inl (g.2.2.1, 10, .inr (.inr (.inr (.inr (tq ad)))))), ((ad 10), cT (ad 13) (ad 16) (ad 19) (tr 0)), ((ad 11), cT (ad 14) (ad 17) (ad 20) (tr 1)), ((ad 12), cT (ad 15) (ad 18) (ad 21) (tr 2)), ((ad 13), .inl (g.2.1, 8, .inl (tw 0 0))), ((ad 14), .inl (g.2.1, 8, .inl (tw 1 0))), ((ad 15), .inl (g.2.1, 8, .inl (tw 2 0))), ((ad 16), .inl (g.2.1, 8, .inl (tw 0 1))), ((ad 17), .inl (g.2.1, 8, .inl (tw 1 1))), ((ad 18), .inl (g.2.1, 8, .inl (tw 2 1))), ((ad 19), .inl (g.2.1, 8, .inl (tw 0 2))), ((ad 20), .inl (g.2.1, 8, .inl (tw 1 2))), ((ad 21), .inl (g.2.1, 8, .inl (tw 2 2))), ((ad 2), cA (ad 3) al4), ((ad 3), .inl (g.2.2.1, 10, .inr (.inr (.inr (.inr (iq ad)))))), ((ad 4), cI (ig 0)), ((ad 5), cI (ig 1)), ((ad 6), cI (ig 2)), ((ad 7), cI (ig 3)), (ou, .inl (g.2.2.2.1, 1, .inr (.inl fo)))] sz) = va_A [((ad 0), cM ad e0 mi lo su), ((ad 8), cA (ad 9) al3), ((ad 9), .inl (g.2.2.1, 10, .inr (.inr (.inr (.inr (tq ad)))))), ((ad 10), cT (ad 13) (ad 16) (ad 19) (tr 0)), ((ad 11), cT (ad 14) (ad 17) (ad 20) (tr 1)), ((ad 12), cT (ad 15) (ad 18) (ad 21) (tr 2)), ((ad 13), .inl (g.2.1, 8, .inl (tw 0 0))), ((ad 14), .inl (g.2.1, 8, .inl (tw 1 0))), ((ad 15), .inl (g.2.1, 8, .inl (tw 2 0))), ((ad 16), .inl (g.2.1, 8, .inl (tw 0 1))), ((ad 17), .inl (g.2.1, 8, .inl (tw 1 1))), ((ad 18), .inl (g.2.1, 8, .inl (tw 2 1))), ((ad 19), .inl (g.2.1, 8, .inl (tw 0 2))), ((ad 20), .inl (g.2.1, 8, .inl (tw 1 2))), ((ad 21), .inl (g.2.1, 8, .inl (tw 2 2))), ((ad 2), cA (ad 3) al4), ((ad 3), .inl (g.2.2.1, 10, .inr (.inr (.inr (.inr (iq ad)))))), ((ad 4), cI (ig 0)), ((ad 5), cI (ig 1)), ((ad 6), cI (ig 2)), ((ad 7), cI (ig 3)), (ou, .inl (g.2.2.2.1, 1, .inr (.inl fo)))] s.heap.size := by rw [hsz]
  subst hsz
  refine g_aload_n B 3 3 dX0_setTrack_0 rfl rfl ?_
  refine g_iconst (v := 0) B dX0_setTrack_1 kc_0 ?_
  refine g_aload_n B 0 0 dX0_setTrack_2 rfl rfl ?_
  refine g_iload_n B 1 1 dX0_setTrack_3 rfl rfl ?_
  refine g_iload_n B 2 2 dX0_setTrack_4 rfl rfl ?_
  refine g_xV_i (C := RX1) (T := TX1) (N := 17) (As := [.int t, .int i]) B (m_X1_setTrack l hst g ad e0 mi lo su tr ig tw t i) 0 0 rfl rfl [0, 1, 2, 3, 4, 5, 6, 7, 8, 9, 10, 11, 12, 13, 14, 15, 16, 17, 18, 19, 20] [.int 0, .ref ou] (lw_V q829 q830 q831 q26 q832) nvX1_setTrack rfl rfl (fun _ => rfl) rfl rfl (Nat.le_of_ble_eq_true rfl) dX0_setTrack_5 ⟨Nat.le_of_ble_eq_true rfl, Nat.le_of_ble_eq_true rfl⟩ ⟨Nat.le_of_ble_eq_true rfl, Nat.le_of_ble_eq_true rfl⟩ (fun E hE => ?_) (fun r_1 ur_1 hr_1 => ?_)
  · skip
    obtain ⟨rfl, hK9⟩ := hE
    have hN9 : ¬ (k_track t i) = 0 := by rw [hK9]; decide
    refine g_catch (E := eIO) (name := "java/lang/IndexOutOfBoundsException") B [] ⟨0, 10, 13, 13⟩ [] hT (fun z hz => absurd hz List.not_mem_nil) (by decide) (by decide) q702 q674 (fun q9 => ?_)
    refine g_astore B [(4, .ref q9), (0, .ref (ad 0)), (1, .int t), (2, .int i), (3, .ref ou)] dX0_setTrack_13 (Nat.le_of_ble_eq_true rfl) rfl ?_
    refine g_iconst (v := 1) B dX0_setTrack_15 kc_1 ?_
    exact g_xiret B hr dX0_setTrack_16 (Nat.le_of_ble_eq_true rfl) (Nat.le_of_ble_eq_true rfl) () (hK9.symm) [0, 1, 2, 3, 4, 5, 6, 7, 8, 9, 10, 11, 12, 13, 14, 15, 16, 17, 18, 19, 20, 21] rfl (by simp only [cn, if_neg hN9]; rfl)
  have kr_1 : (k_track t i) = 0 := hr_1.1
  replace hr_1 := hr_1.2
  refine g_eqw (ws' := [((ad 0), cM ad e0 mi lo su), ((ad 8), cA (ad 9) al3), ((ad 9), .inl (g.2.2.1, 10, .inr (.inr (.inr (.inr (tq ad)))))), ((ad 10), cT (ad 13) (ad 16) (ad 19) ((va_up tr t.toNatClampNeg (upd (tr t.toNatClampNeg) 0 i)) 0)), ((ad 11), cT (ad 14) (ad 17) (ad 20) ((va_up tr t.toNatClampNeg (upd (tr t.toNatClampNeg) 0 i)) 1)), ((ad 12), cT (ad 15) (ad 18) (ad 21) ((va_up tr t.toNatClampNeg (upd (tr t.toNatClampNeg) 0 i)) 2)), ((ad 13), .inl (g.2.1, 8, .inl (tw 0 0))), ((ad 14), .inl (g.2.1, 8, .inl (tw 1 0))), ((ad 15), .inl (g.2.1, 8, .inl (tw 2 0))), ((ad 16), .inl (g.2.1, 8, .inl (tw 0 1))), ((ad 17), .inl (g.2.1, 8, .inl (tw 1 1))), ((ad 18), .inl (g.2.1, 8, .inl (tw 2 1))), ((ad 19), .inl (g.2.1, 8, .inl (tw 0 2))), ((ad 20), .inl (g.2.1, 8, .inl (tw 1 2))), ((ad 21), .inl (g.2.1, 8, .inl (tw 2 2))), ((ad 2), cA (ad 3) al4), ((ad 3), .inl (g.2.2.1, 10, .inr (.inr (.inr (.inr (iq ad)))))), ((ad 4), cI (ig 0)), ((ad 5), cI (ig 1)), ((ad 6), cI (ig 2)), ((ad 7), cI (ig 3)), (ou, .inl (g.2.2.2.1, 1, .inr (.inl fo)))]) rfl ?_
  have hr_1 : r_1 = tr t.toNatClampNeg 0 := hr_1
  refine g_i2l B dX0_setTrack_8 ?_
  refine g_topl (fun x_2 ex_2 => ?_)
  refine g_last B 21 [((ad 0), cM ad e0 mi lo su), ((ad 8), cA (ad 9) al3), ((ad 9), .inl (g.2.2.1, 10, .inr (.inr (.inr (.inr (tq ad)))))), ((ad 10), cT (ad 13) (ad 16) (ad 19) ((va_up tr t.toNatClampNeg (upd (tr t.toNatClampNeg) 0 i)) 0)), ((ad 11), cT (ad 14) (ad 17) (ad 20) ((va_up tr t.toNatClampNeg (upd (tr t.toNatClampNeg) 0 i)) 1)), ((ad 12), cT (ad 15) (ad 18) (ad 21) ((va_up tr t.toNatClampNeg (upd (tr t.toNatClampNeg) 0 i)) 2)), ((ad 13), .inl (g.2.1, 8, .inl (tw 0 0))), ((ad 14), .inl (g.2.1, 8, .inl (tw 1 0))), ((ad 15), .inl (g.2.1, 8, .inl (tw 2 0))), ((ad 16), .inl (g.2.1, 8, .inl (tw 0 1))), ((ad 17), .inl (g.2.1, 8, .inl (tw 1 1))), ((ad 18), .inl (g.2.1, 8, .inl (tw 2 1))), ((ad 19), .inl (g.2.1, 8, .inl (tw 0 2))), ((ad 20), .inl (g.2.1, 8, .inl (tw 1 2))), ((ad 21), .inl (g.2.1, 8, .inl (tw 2 2))), ((ad 2), cA (ad 3) al4), ((ad 3), .inl (g.2.2.1, 10, .inr (.inr (.inr (.inr (iq ad)))))), ((ad 4), cI (ig 0)), ((ad 5), cI (ig 1)), ((ad 6), cI (ig 2)), ((ad 7), cI (ig 3)), (ou, .inl (g.2.2.2.1, 1, .inr (.inl (vp_updL fo 0 x_2))))] rfl (vpc rfl) rfl dX0_setTrack_9 ?_
  refine g_goto (tgt := 17) B dX0_setTrack_10 (by decide) ?_
  refine g_iconst (v := 0) B dX0_setTrack_17 kc_0 ?_
  subst hr_1
  subst ex_2
  exact g_xiret B hr dX0_setTrack_18 (Nat.le_of_ble_eq_true rfl) (Nat.le_of_ble_eq_true rfl) () (kr_1.symm) [0, 1, 2, 3, 4, 5, 6, 7, 8, 9, 10, 11, 12, 13, 14, 15, 16, 17, 18, 19, 20, 21] rfl (by simp only [cn, if_pos kr_1]; rfl)

set_option maxHeartbeats 4000000 in
set_option maxRecDepth 100000 in
theorem m_X0_setTempo (l : Launch) (hst : l.stackTraces = false) (g : gG) (ad : Nat → Nat) (e0 : Nat) (mi : Nat → Int32) (lo su : Int64) (te sw : Int32) (ou : Nat) (fo : Nat → Int64) : gHi l yX0_setTempo cX0_setTempo 5 .int [((0 : Nat), (10 : Nat), (13 : Nat), (15 : Nat))] 9 154 8 48 g [((ad 0), cM ad e0 mi lo su), (ou, .inl (g.2.2.2.1, 1, .inr (.inl fo)))] [.ref (ad 0), .int te, .int sw, .ref ou] (fun (r : Int32) (_ : Unit) => r = (k_tempo te sw)) (fun _ : Unit => [((ad 0), cM ad e0 (cn (k_tempo te sw) (upd (upd mi 0 te) 1 sw) mi) lo su), (ou, .inl (g.2.2.2.1, 1, .inr (.inl (cn (k_tempo te sw) (vp_updL fo 0 (Int32.toInt64 (mi 0))) fo))))]) (fun E : String => False) := by
  intro sz
  refine g_hent (by decide) hst [(0, .ref (ad 0)), (1, .int te), (2, .int sw), (3, .ref ou)] (Nat.le_of_ble_eq_true rfl) rfl ?_
  intro p e s m below meth c B hr hnm hsz hT
  have B : gB p l s m ([.ref (ad 0), .int te, .int sw, .ref ou] : List Value).toArray meth c RX0 cX0_setTempo 5 g (va_A [((ad 0), cM ad e0 mi lo su), (ou, .inl (g.2.2.2.1, 1, .inr (.inl fo)))] sz) := B
  have hA9 : (va_A [((ad 0), cM ad e0 mi lo su), (ou, .inl (g.2.2.2.1, 1, .inr (.inl fo)))] sz) = va_A [((ad 0), cM ad e0 mi lo su), (ou, .inl (g.2.2.2.1, 1, .inr (.inl fo)))] s.heap.size := by rw [hsz]
  subst hsz
  refine g_aload_n B 3 3 dX0_setTempo_0 rfl rfl ?_
  refine g_iconst (v := 0) B dX0_setTempo_1 kc_0 ?_
  refine g_aload_n B 0 0 dX0_setTempo_2 rfl rfl ?_
  refine g_iload_n B 1 1 dX0_setTempo_3 rfl rfl ?_
  refine g_iload_n B 2 2 dX0_setTempo_4 rfl rfl ?_
  refine g_xV_i (C := RX1) (T := TX1) (N := 17) (As := [.int te, .int sw]) B (m_X1_setTempo l hst g ad e0 mi lo su te sw) 0 0 rfl rfl [0] [.int 0, .ref ou] (lw_V q836 q837 q838 q26 q839) nvX1_setTempo rfl rfl (fun _ => rfl) rfl rfl (Nat.le_of_ble_eq_true rfl) dX0_setTempo_5 ⟨Nat.le_of_ble_eq_true rfl, Nat.le_of_ble_eq_true rfl⟩ ⟨Nat.le_of_ble_eq_true rfl, Nat.le_of_ble_eq_true rfl⟩ (fun E hE => ?_) (fun r_1 ur_1 hr_1 => ?_)
  · skip
    obtain ⟨rfl, hK9⟩ := hE
    have hN9 : ¬ (k_tempo te sw) = 0 := by rw [hK9]; decide
    refine g_catch (E := eIA) (name := "java/lang/IllegalArgumentException") B [] ⟨0, 10, 13, 15⟩ [] hT (fun z hz => absurd hz List.not_mem_nil) (by decide) (by decide) q735 q588 (fun q9 => ?_)
    refine g_astore B [(4, .ref q9), (0, .ref (ad 0)), (1, .int te), (2, .int sw), (3, .ref ou)] dX0_setTempo_13 (Nat.le_of_ble_eq_true rfl) rfl ?_
    refine g_iconst (v := 1) B dX0_setTempo_15 kc_1 ?_
    exact g_xiret B hr dX0_setTempo_16 (Nat.le_of_ble_eq_true rfl) (Nat.le_of_ble_eq_true rfl) () (hK9.symm) [0, 1] rfl (by simp only [cn, if_neg hN9]; rfl)
  have kr_1 : (k_tempo te sw) = 0 := hr_1.1
  replace hr_1 := hr_1.2
  refine g_eqw (ws' := [((ad 0), cM ad e0 (upd (upd mi 0 te) 1 sw) lo su), (ou, .inl (g.2.2.2.1, 1, .inr (.inl fo)))]) rfl ?_
  have hr_1 : r_1 = mi 0 := hr_1
  refine g_i2l B dX0_setTempo_8 ?_
  refine g_topl (fun x_2 ex_2 => ?_)
  refine g_last B 1 [((ad 0), cM ad e0 (upd (upd mi 0 te) 1 sw) lo su), (ou, .inl (g.2.2.2.1, 1, .inr (.inl (vp_updL fo 0 x_2))))] rfl (vpc rfl) rfl dX0_setTempo_9 ?_
  refine g_goto (tgt := 17) B dX0_setTempo_10 (by decide) ?_
  refine g_iconst (v := 0) B dX0_setTempo_17 kc_0 ?_
  subst hr_1
  subst ex_2
  exact g_xiret B hr dX0_setTempo_18 (Nat.le_of_ble_eq_true rfl) (Nat.le_of_ble_eq_true rfl) () (kr_1.symm) [0, 1] rfl (by simp only [cn, if_pos kr_1]; rfl)

set_option maxHeartbeats 4000000 in
set_option maxRecDepth 100000 in
theorem m_X0_play (l : Launch) (hst : l.stackTraces = false) (g : gG) (ad ed : Nat → Nat) (mi : Nat → Int32) (lo su : Int64) (en : Nat → Int32) (j : Int32) (hp : en 4 = 0 ∨ en 4 = 1) (ou : Nat) (fo : Nat → Int64) : gHi l yX0_play cX0_play 4 .int [((0 : Nat), (16 : Nat), (19 : Nat), (13 : Nat))] 8 132 8 48 g [((ad 0), cM ad (ed 0) mi lo su), ((ed 0), cE (ed 1) (ed 7) (ad 0) en), (ou, .inl (g.2.2.2.1, 1, .inr (.inl fo)))] [.ref (ad 0), .int j, .ref ou] (fun (r : Int32) (_ : Unit) => r = (k_play j)) (fun _ : Unit => [((ad 0), cM ad (ed 0) mi lo su), ((ed 0), cE (ed 1) (ed 7) (ad 0) (cn (k_play j) (s_play en j) en)), (ou, .inl (g.2.2.2.1, 1, .inr (.inl (cn (k_play j) (vp_updL fo 0 (w_pl (en 4))) fo))))]) (fun E : String => False) := by
  intro sz
  refine g_hent (by decide) hst [(0, .ref (ad 0)), (1, .int j), (2, .ref ou)] (Nat.le_of_ble_eq_true rfl) rfl ?_
  intro p e s m below meth c B hr hnm hsz hT
  have B : gB p l s m ([.ref (ad 0), .int j, .ref ou] : List Value).toArray meth c RX0 cX0_play 4 g (va_A [((ad 0), cM ad (ed 0) mi lo su), ((ed 0), cE (ed 1) (ed 7) (ad 0) en), (ou, .inl (g.2.2.2.1, 1, .inr (.inl fo)))] sz) := B
  have hA9 : (va_A [((ad 0), cM ad (ed 0) mi lo su), ((ed 0), cE (ed 1) (ed 7) (ad 0) en), (ou, .inl (g.2.2.2.1, 1, .inr (.inl fo)))] sz) = va_A [((ad 0), cM ad (ed 0) mi lo su), ((ed 0), cE (ed 1) (ed 7) (ad 0) en), (ou, .inl (g.2.2.2.1, 1, .inr (.inl fo)))] s.heap.size := by rw [hsz]
  subst hsz
  refine g_aload_n B 2 2 dX0_play_0 rfl rfl ?_
  refine g_iconst (v := 0) B dX0_play_1 kc_0 ?_
  refine g_aload_n B 0 0 dX0_play_2 rfl rfl ?_
  refine g_iload_n B 1 1 dX0_play_3 rfl rfl ?_
  refine g_xV_i (C := RX1) (T := TX1) (N := 17) (As := [.int j]) B (m_X1_play l hst g ad ed mi lo su en j hp) 0 0 rfl rfl [0, 1] [.int 0, .ref ou] (lw_V q843 q844 q845 q26 q846) nvX1_play rfl rfl (fun _ => rfl) rfl rfl (Nat.le_of_ble_eq_true rfl) dX0_play_4 ⟨Nat.le_of_ble_eq_true rfl, Nat.le_of_ble_eq_true rfl⟩ ⟨Nat.le_of_ble_eq_true rfl, Nat.le_of_ble_eq_true rfl⟩ (fun E hE => ?_) (fun r_1 ur_1 hr_1 => ?_)
  · skip
    obtain ⟨rfl, hK9⟩ := hE
    have hN9 : ¬ (k_play j) = 0 := by rw [hK9]; decide
    refine g_catch (E := eIO) (name := "java/lang/IndexOutOfBoundsException") B [] ⟨0, 16, 19, 13⟩ [] hT (fun z hz => absurd hz List.not_mem_nil) (by decide) (by decide) q702 q674 (fun q9 => ?_)
    refine g_astore_n B 3 [(3, .ref q9), (0, .ref (ad 0)), (1, .int j), (2, .ref ou)] dX0_play_19 rfl (Nat.le_of_ble_eq_true rfl) rfl ?_
    refine g_iconst (v := 1) B dX0_play_20 kc_1 ?_
    exact g_xiret B hr dX0_play_21 (Nat.le_of_ble_eq_true rfl) (Nat.le_of_ble_eq_true rfl) () (hK9.symm) [0, 1, 2] rfl (by simp only [cn, w_pl, if_neg hN9]; rfl)
  have kr_1 : (k_play j) = 0 := hr_1.1
  replace hr_1 := hr_1.2
  refine g_eqw (ws' := [((ad 0), cM ad (ed 0) mi lo su), ((ed 0), cE (ed 1) (ed 7) (ad 0) (s_play en j)), (ou, .inl (g.2.2.2.1, 1, .inr (.inl fo)))]) rfl ?_
  have hr_1 : r_1 = en 4 := hr_1
  refine g_if_eq (tgt := 14) B dX0_play_7 (by decide) (fun c_2 => ?_) (fun c_2 => ?_)
  · skip
    refine g_lconst (v := 0) B dX0_play_14 kl_0 ?_
    refine g_last B 2 [((ad 0), cM ad (ed 0) mi lo su), ((ed 0), cE (ed 1) (ed 7) (ad 0) (s_play en j)), (ou, .inl (g.2.2.2.1, 1, .inr (.inl (vp_updL fo 0 0))))] rfl (vpc rfl) rfl dX0_play_15 ?_
    refine g_goto (tgt := 22) B dX0_play_16 (by decide) ?_
    refine g_iconst (v := 0) B dX0_play_22 kc_0 ?_
    subst hr_1
    exact g_xiret B hr dX0_play_23 (Nat.le_of_ble_eq_true rfl) (Nat.le_of_ble_eq_true rfl) () (kr_1.symm) [0, 1, 2] rfl (by simp only [cn, w_pl, if_pos kr_1, if_pos c_2]; rfl)
  · skip
    refine g_lconst (v := 1) B dX0_play_10 kl_1 ?_
    refine g_goto (tgt := 15) B dX0_play_11 (by decide) ?_
    refine g_last B 2 [((ad 0), cM ad (ed 0) mi lo su), ((ed 0), cE (ed 1) (ed 7) (ad 0) (s_play en j)), (ou, .inl (g.2.2.2.1, 1, .inr (.inl (vp_updL fo 0 1))))] rfl (vpc rfl) rfl dX0_play_15 ?_
    refine g_goto (tgt := 22) B dX0_play_16 (by decide) ?_
    refine g_iconst (v := 0) B dX0_play_22 kc_0 ?_
    subst hr_1
    exact g_xiret B hr dX0_play_23 (Nat.le_of_ble_eq_true rfl) (Nat.le_of_ble_eq_true rfl) () (kr_1.symm) [0, 1, 2] rfl (by simp only [cn, w_pl, if_pos kr_1, if_neg c_2]; rfl)
