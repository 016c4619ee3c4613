/-! contracts: the wrappers (1) -/
set_option maxRecDepth 100000

theorem nvX1_draw : yX1_draw.cls = RX1 ∧ yX1_draw.cls ≠ "java/lang/invoke/MethodHandle" ∧ yX1_draw.cls ≠ "java/lang/invoke/VarHandle" ∧ (parseMethodDescriptor yX1_draw.desc).map (fun d => d.parameters.length) = some 2 := by decide +kernel
theorem nvX1_setEnvelope : yX1_setEnvelope.cls = RX1 ∧ yX1_setEnvelope.cls ≠ "java/lang/invoke/MethodHandle" ∧ yX1_setEnvelope.cls ≠ "java/lang/invoke/VarHandle" ∧ (parseMethodDescriptor yX1_setEnvelope.desc).map (fun d => d.parameters.length) = some 5 := by decide +kernel
theorem nvX1_setFilter : yX1_setFilter.cls = RX1 ∧ yX1_setFilter.cls ≠ "java/lang/invoke/MethodHandle" ∧ yX1_setFilter.cls ≠ "java/lang/invoke/VarHandle" ∧ (parseMethodDescriptor yX1_setFilter.desc).map (fun d => d.parameters.length) = some 3 := by decide +kernel
theorem nvX1_setGain : yX1_setGain.cls = RX1 ∧ yX1_setGain.cls ≠ "java/lang/invoke/MethodHandle" ∧ yX1_setGain.cls ≠ "java/lang/invoke/VarHandle" ∧ (parseMethodDescriptor yX1_setGain.desc).map (fun d => d.parameters.length) = some 1 := by decide +kernel
theorem nvX1_setVibrato : yX1_setVibrato.cls = RX1 ∧ yX1_setVibrato.cls ≠ "java/lang/invoke/MethodHandle" ∧ yX1_setVibrato.cls ≠ "java/lang/invoke/VarHandle" ∧ (parseMethodDescriptor yX1_setVibrato.desc).map (fun d => d.parameters.length) = some 3 := by decide +kernel
theorem nvX1_setWaves : yX1_setWaves.cls = RX1 ∧ yX1_setWaves.cls ≠ "java/lang/invoke/MethodHandle" ∧ yX1_setWaves.cls ≠ "java/lang/invoke/VarHandle" ∧ (parseMethodDescriptor yX1_setWaves.desc).map (fun d => d.parameters.length) = some 5 := by decide +kernel
theorem nvX1_stride : yX1_stride.cls = RX1 ∧ yX1_stride.cls ≠ "java/lang/invoke/MethodHandle" ∧ yX1_stride.cls ≠ "java/lang/invoke/VarHandle" ∧ (parseMethodDescriptor yX1_stride.desc).map (fun d => d.parameters.length) = some 1 := by decide +kernel
theorem nvX1_wave : yX1_wave.cls = RX1 ∧ yX1_wave.cls ≠ "java/lang/invoke/MethodHandle" ∧ yX1_wave.cls ≠ "java/lang/invoke/VarHandle" ∧ (parseMethodDescriptor yX1_wave.desc).map (fun d => d.parameters.length) = some 2 := by decide +kernel
set_option maxHeartbeats 4000000 in
set_option maxRecDepth 100000 in
theorem m_X0_draw (l : Launch) (hst : l.stackTraces = false) (g : gG) (ad : Nat → Nat) (e0 : Nat) (mi : Nat → Int32) (lo su : Int64) (dr : Nat → Int32) (pl v : Int32) (ou : Nat) (fo : Nat → Int64) : gHi l yX0_draw cX0_draw 5 .int [((0 : Nat), (10 : Nat), (13 : Nat), (13 : Nat)), ((0 : Nat), (10 : Nat), (17 : Nat), (15 : Nat))] 9 154 8 48 g [((ad 0), cM ad e0 mi lo su), ((ad 1), .inl (g.2.1, 32, .inl dr)), (ou, .inl (g.2.2.2.1, 1, .inr (.inl fo)))] [.ref (ad 0), .int pl, .int v, .ref ou] (fun (r : Int32) (_ : Unit) => r = (k_draw pl v)) (fun _ : Unit => [((ad 0), cM ad e0 mi lo su), ((ad 1), .inl (g.2.1, 32, .inl (cn (k_draw pl v) (upd dr pl.toNatClampNeg v) dr))), (ou, .inl (g.2.2.2.1, 1, .inr (.inl (cn (k_draw pl v) (vp_updL fo 0 (Int32.toInt64 (dr pl.toNatClampNeg))) fo))))]) (fun E : String => False) := by
  intro sz
  refine g_hent (by decide) hst [(0, .ref (ad 0)), (1, .int pl), (2, .int v), (3, .ref ou)] (Nat.le_of_ble_eq_true rfl) rfl ?_
  intro p e s m below meth c B hr hnm hsz hT
  have B : gB p l s m ([.ref (ad 0), .int pl, .int v, .ref ou] : List Value).toArray meth c RX0 cX0_draw 5 g (va_A [((ad 0), cM ad e0 mi lo su), ((ad 1), .inl (g.2.1, 32, .inl dr)), (ou, .inl (g.2.2.2.1, 1, .inr (.inl fo)))] sz) := B
  have hA9 : (va_A [((ad 0), cM ad e0 mi lo su), ((ad 1), .inl (g.2.1, 32, .inl dr)), (ou, .inl (g.2.2.2.1, 1, .inr (.inl fo)))] sz) = va_A [((ad 0), cM ad e0 mi lo su), ((ad 1), .inl (g.2.1, 32, .inl dr)), (ou, .inl (g.2.2.2.1, 1, .inr (.inl fo)))] s.heap.size := by rw [hsz]
  subst hsz
  refine g_aload_n B 3 3 dX0_draw_0 rfl rfl ?_
  refine g_iconst (v := 0) B dX0_draw_1 kc_0 ?_
  refine g_aload_n B 0 0 dX0_draw_2 rfl rfl ?_
  refine g_iload_n B 1 1 dX0_draw_3 rfl rfl ?_
  refine g_iload_n B 2 2 dX0_draw_4 rfl rfl ?_
  refine g_xV_i (C := RX1) (T := TX1) (N := 17) (As := [.int pl, .int v]) B (m_X1_draw l hst g ad e0 mi lo su dr pl v) 0 0 rfl rfl [0, 1] [.int 0, .ref ou] (lw_V q736 q737 q738 q26 q739) nvX1_draw rfl rfl (fun _ => rfl) rfl rfl (Nat.le_of_ble_eq_true rfl) dX0_draw_5 ⟨Nat.le_of_ble_eq_true rfl, Nat.le_of_ble_eq_true rfl⟩ ⟨Nat.le_of_ble_eq_true rfl, Nat.le_of_ble_eq_true rfl⟩ (fun E hE => ?_) (fun r_1 ur_1 hr_1 => ?_)
  · skip
    rcases hE with hE | hE
    · skip
      obtain ⟨rfl, hK9⟩ := hE
      have hN9 : ¬ (k_draw pl v) = 0 := by rw [hK9]; decide
      refine g_catch (E := eIO) (name := "java/lang/IndexOutOfBoundsException") B [] ⟨0, 10, 13, 13⟩ [⟨0, 10, 17, 15⟩] hT (fun z hz => absurd hz List.not_mem_nil) (by decide) (by decide) q702 q674 (fun q9 => ?_)
      refine g_astore B [(4, .ref q9), (0, .ref (ad 0)), (1, .int pl), (2, .int v), (3, .ref ou)] dX0_draw_13 (Nat.le_of_ble_eq_true rfl) rfl ?_
      refine g_iconst (v := 1) B dX0_draw_15 kc_1 ?_
      exact g_xiret B hr dX0_draw_16 (Nat.le_of_ble_eq_true rfl) (Nat.le_of_ble_eq_true rfl) () (hK9.symm) [0, 1, 2] rfl (by simp only [cn, if_neg hN9]; rfl)
    · skip
      obtain ⟨rfl, hK9⟩ := hE
      have hN9 : ¬ (k_draw pl v) = 0 := by rw [hK9]; decide
      refine g_catch (E := eIA) (name := "java/lang/IllegalArgumentException") B [⟨0, 10, 13, 13⟩] ⟨0, 10, 17, 15⟩ [] hT (fun z hz => by rw [List.mem_singleton.mp hz]; exact ⟨by decide, _, q702, B.N.2⟩) (by decide) (by decide) q735 q588 (fun q9 => ?_)
      refine g_astore B [(4, .ref q9), (0, .ref (ad 0)), (1, .int pl), (2, .int v), (3, .ref ou)] dX0_draw_17 (Nat.le_of_ble_eq_true rfl) rfl ?_
      refine g_iconst (v := 2) B dX0_draw_19 kc_2 ?_
      exact g_xiret B hr dX0_draw_20 (Nat.le_of_ble_eq_true rfl) (Nat.le_of_ble_eq_true rfl) () (hK9.symm) [0, 1, 2] rfl (by simp only [cn, if_neg hN9]; rfl)
  have kr_1 : (k_draw pl v) = 0 := hr_1.1
  replace hr_1 := hr_1.2
  refine g_eqw (ws' := [((ad 0), cM ad e0 mi lo su), ((ad 1), .inl (g.2.1, 32, .inl (upd dr pl.toNatClampNeg v))), (ou, .inl (g.2.2.2.1, 1, .inr (.inl fo)))]) rfl ?_
  have hr_1 : r_1 = dr pl.toNatClampNeg := hr_1
  refine g_i2l B dX0_draw_8 ?_
  refine g_topl (fun x_2 ex_2 => ?_)
  refine g_last B 2 [((ad 0), cM ad e0 mi lo su), ((ad 1), .inl (g.2.1, 32, .inl (upd dr pl.toNatClampNeg v))), (ou, .inl (g.2.2.2.1, 1, .inr (.inl (vp_updL fo 0 x_2))))] rfl (vpc rfl) rfl dX0_draw_9 ?_
  refine g_goto (tgt := 21) B dX0_draw_10 (by decide) ?_
  refine g_iconst (v := 0) B dX0_draw_21 kc_0 ?_
  subst hr_1
  subst ex_2
  exact g_xiret B hr dX0_draw_22 (Nat.le_of_ble_eq_true rfl) (Nat.le_of_ble_eq_true rfl) () (kr_1.symm) [0, 1, 2] rfl (by simp only [cn, if_pos kr_1]; rfl)

set_option maxHeartbeats 4000000 in
set_option maxRecDepth 100000 in
theorem m_X0_wave (l : Launch) (hst : l.stackTraces = false) (g : gG) (ad : Nat → Nat) (e0 : Nat) (mi : Nat → Int32) (lo su : Int64) (dr : Nat → Int32) (wa ph : Int32) (ou : Nat) (fo : Nat → Int64) : gHi l yX0_wave cX0_wave 5 .int [((0 : Nat), (10 : Nat), (13 : Nat), (13 : Nat)), ((0 : Nat), (10 : Nat), (17 : Nat), (15 : Nat))] 9 153 8 48 g [((ad 0), cM ad e0 mi lo su), ((ad 1), .inl (g.2.1, 32, .inl dr)), (ou, .inl (g.2.2.2.1, 1, .inr (.inl fo)))] [.ref (ad 0), .int wa, .int ph, .ref ou] (fun (r : Int32) (_ : Unit) => r = (k_wave wa ph)) (fun _ : Unit => [((ad 0), cM ad e0 mi lo su), ((ad 1), .inl (g.2.1, 32, .inl dr)), (ou, .inl (g.2.2.2.1, 1, .inr (.inl (cn (k_wave wa ph) (vp_updL fo 0 (Int32.toInt64 (pwav dr wa ph))) fo))))]) (fun E : String => False) := by
  intro sz
  refine g_hent (by decide) hst [(0, .ref (ad 0)), (1, .int wa), (2, .int ph), (3, .ref ou)] (Nat.le_of_ble_eq_true rfl) rfl ?_
  intro p e s m below meth c B hr hnm hsz hT
  have B : gB p l s m ([.ref (ad 0), .int wa, .int ph, .ref ou] : List Value).toArray meth c RX0 cX0_wave 5 g (va_A [((ad 0), cM ad e0 mi lo su), ((ad 1), .inl (g.2.1, 32, .inl dr)), (ou, .inl (g.2.2.2.1, 1, .inr (.inl fo)))] sz) := B
  have hA9 : (va_A [((ad 0), cM ad e0 mi lo su), ((ad 1), .inl (g.2.1, 32, .inl dr)), (ou, .inl (g.2.2.2.1, 1, .inr (.inl fo)))] sz) = va_A [((ad 0), cM ad e0 mi lo su), ((ad 1), .inl (g.2.1, 32, .inl dr)), (ou, .inl (g.2.2.2.1, 1, .inr (.inl fo)))] s.heap.size := by rw [hsz]
  subst hsz
  refine g_aload_n B 3 3 dX0_wave_0 rfl rfl ?_
  refine g_iconst (v := 0) B dX0_wave_1 kc_0 ?_
  refine g_aload_n B 0 0 dX0_wave_2 rfl rfl ?_
  refine g_iload_n B 1 1 dX0_wave_3 rfl rfl ?_
  refine g_iload_n B 2 2 dX0_wave_4 rfl rfl ?_
  refine g_xuV_i (C := RX1) (T := TX1) (N := 17) (As := [.int wa, .int ph]) B (m_X1_wave l hst g ad e0 mi lo su dr wa ph) 0 0 rfl rfl [0, 1] [.int 0, .ref ou] (lw_V q743 q744 q745 q26 q746) nvX1_wave rfl rfl rfl rfl (Nat.le_of_ble_eq_true rfl) dX0_wave_5 ⟨Nat.le_of_ble_eq_true rfl, Nat.le_of_ble_eq_true rfl⟩ ⟨Nat.le_of_ble_eq_true rfl, Nat.le_of_ble_eq_true rfl⟩ (fun E hE => ?_) (fun r_1 ur_1 hr_1 => ?_)
  · skip
    rcases hE with hE | hE
    · skip
      obtain ⟨rfl, hK9⟩ := hE
      have hN9 : ¬ (k_wave wa ph) = 0 := by rw [hK9]; decide
      refine g_catch (E := eIO) (name := "java/lang/IndexOutOfBoundsException") B [] ⟨0, 10, 13, 13⟩ [⟨0, 10, 17, 15⟩] hT (fun z hz => absurd hz List.not_mem_nil) (by decide) (by decide) q702 q674 (fun q9 => ?_)
      refine g_astore B [(4, .ref q9), (0, .ref (ad 0)), (1, .int wa), (2, .int ph), (3, .ref ou)] dX0_wave_13 (Nat.le_of_ble_eq_true rfl) rfl ?_
      refine g_iconst (v := 1) B dX0_wave_15 kc_1 ?_
      exact g_xiret B hr dX0_wave_16 (Nat.le_of_ble_eq_true rfl) (Nat.le_of_ble_eq_true rfl) () (hK9.symm) [0, 1, 2] rfl (by simp only [cn, if_neg hN9]; rfl)
    · skip
      obtain ⟨rfl, hK9⟩ := hE
      have hN9 : ¬ (k_wave wa ph) = 0 := by rw [hK9]; decide
      refine g_catch (E := eIA) (name := "java/lang/IllegalArgumentException") B [⟨0, 10, 13, 13⟩] ⟨0, 10, 17, 15⟩ [] hT (fun z hz => by rw [List.mem_singleton.mp hz]; exact ⟨by decide, _, q702, B.N.2⟩) (by decide) (by decide) q735 q588 (fun q9 => ?_)
      refine g_astore B [(4, .ref q9), (0, .ref (ad 0)), (1, .int wa), (2, .int ph), (3, .ref ou)] dX0_wave_17 (Nat.le_of_ble_eq_true rfl) rfl ?_
      refine g_iconst (v := 2) B dX0_wave_19 kc_2 ?_
      exact g_xiret B hr dX0_wave_20 (Nat.le_of_ble_eq_true rfl) (Nat.le_of_ble_eq_true rfl) () (hK9.symm) [0, 1, 2] rfl (by simp only [cn, if_neg hN9]; rfl)
  have kr_1 : (k_wave wa ph) = 0 := hr_1.1
  replace hr_1 := hr_1.2
  have hr_1 : r_1 = pwav dr wa ph := hr_1
  refine g_i2l B dX0_wave_8 ?_
  refine g_topl (fun x_2 ex_2 => ?_)
  refine g_last B 2 [((ad 0), cM ad e0 mi lo su), ((ad 1), .inl (g.2.1, 32, .inl dr)), (ou, .inl (g.2.2.2.1, 1, .inr (.inl (vp_updL fo 0 x_2))))] rfl (vpc rfl) rfl dX0_wave_9 ?_
  refine g_goto (tgt := 21) B dX0_wave_10 (by decide) ?_
  refine g_iconst (v := 0) B dX0_wave_21 kc_0 ?_
  subst hr_1
  subst ex_2
  exact g_xiret B hr dX0_wave_22 (Nat.le_of_ble_eq_true rfl) (Nat.le_of_ble_eq_true rfl) () (kr_1.symm) [0, 1, 2] rfl (by simp only [cn, if_pos kr_1]; rfl)

set_option maxHeartbeats 4000000 in
set_option maxRecDepth 100000 in
theorem m_X0_stride (l : Launch) (hst : l.stackTraces = false) (g : gG) (ad : Nat → Nat) (e0 : Nat) (mi : Nat → Int32) (lo su : Int64) (pi : Int32) (ou : Nat) (fo : Nat → Int64) : gHi l yX0_stride cX0_stride 4 .int [((0 : Nat), (9 : Nat), (12 : Nat), (15 : Nat))] 9 152 2 18 g [((ad 0), cM ad e0 mi lo su), (ou, .inl (g.2.2.2.1, 1, .inr (.inl fo)))] [.ref (ad 0), .int pi, .ref ou] (fun (r : Int32) (_ : Unit) => r = (k_stride pi)) (fun _ : Unit => [((ad 0), cM ad e0 mi lo su), (ou, .inl (g.2.2.2.1, 1, .inr (.inl (cn (k_stride pi) (vp_updL fo 0 (Int32.toInt64 (pstr pi))) fo))))]) (fun E : String => False) := by
  intro sz
  refine g_hent (by decide) hst [(0, .ref (ad 0)), (1, .int pi), (2, .ref ou)] (Nat.le_of_ble_eq_true rfl) rfl ?_
  intro p e s m below meth c B hr hnm hsz hT
  have B : gB p l s m ([.ref (ad 0), .int pi, .ref ou] : List Value).toArray meth c RX0 cX0_stride 4 g (va_A [((ad 0), cM ad e0 mi lo su), (ou, .inl (g.2.2.2.1, 1, .inr (.inl fo)))] sz) := B
  have hA9 : (va_A [((ad 0), cM ad e0 mi lo su), (ou, .inl (g.2.2.2.1, 1, .inr (.inl fo)))] sz) = va_A [((ad 0), cM ad e0 mi lo su), (ou, .inl (g.2.2.2.1, 1, .inr (.inl fo)))] s.heap.size := by rw [hsz]
  subst hsz
  refine g_aload_n B 2 2 dX0_stride_0 rfl rfl ?_
  refine g_iconst (v := 0) B dX0_stride_1 kc_0 ?_
  refine g_aload_n B 0 0 dX0_stride_2 rfl rfl ?_
  refine g_iload_n B 1 1 dX0_stride_3 rfl rfl ?_
  refine g_xuV_i (C := RX1) (T := TX1) (N := 17) (As := [.int pi]) B (m_X1_stride l hst g ad e0 mi lo su pi) 0 0 rfl rfl [0] [.int 0, .ref ou] (lw_V q752 q753 q754 q26 q755) nvX1_stride rfl rfl rfl rfl (Nat.le_of_ble_eq_true rfl) dX0_stride_4 ⟨Nat.le_of_ble_eq_true rfl, Nat.le_of_ble_eq_true rfl⟩ ⟨Nat.le_of_ble_eq_true rfl, Nat.le_of_ble_eq_true rfl⟩ (fun E hE => ?_) (fun r_1 ur_1 hr_1 => ?_)
  · skip
    obtain ⟨rfl, hK9⟩ := hE
    have hN9 : ¬ (k_stride pi) = 0 := by rw [hK9]; decide
    refine g_catch (E := eIA) (name := "java/lang/IllegalArgumentException") B [] ⟨0, 9, 12, 15⟩ [] hT (fun z hz => absurd hz List.not_mem_nil) (by decide) (by decide) q735 q588 (fun q9 => ?_)
    refine g_astore_n B 3 [(3, .ref q9), (0, .ref (ad 0)), (1, .int pi), (2, .ref ou)] dX0_stride_12 rfl (Nat.le_of_ble_eq_true rfl) rfl ?_
    refine g_iconst (v := 1) B dX0_stride_13 kc_1 ?_
    exact g_xiret B hr dX0_stride_14 (Nat.le_of_ble_eq_true rfl) (Nat.le_of_ble_eq_true rfl) () (hK9.symm) [0, 1] rfl (by simp only [cn, if_neg hN9]; rfl)
  have kr_1 : (k_stride pi) = 0 := hr_1.1
  replace hr_1 := hr_1.2
  have hr_1 : r_1 = pstr pi := hr_1
  refine g_i2l B dX0_stride_7 ?_
  refine g_topl (fun x_2 ex_2 => ?_)
  refine g_last B 1 [((ad 0), cM ad e0 mi lo su), (ou, .inl (g.2.2.2.1, 1, .inr (.inl (vp_updL fo 0 x_2))))] rfl (vpc rfl) rfl dX0_stride_8 ?_
  refine g_goto (tgt := 15) B dX0_stride_9 (by decide) ?_
  refine g_iconst (v := 0) B dX0_stride_15 kc_0 ?_
  subst hr_1
  subst ex_2
  exact g_xiret B hr dX0_stride_16 (Nat.le_of_ble_eq_true rfl) (Nat.le_of_ble_eq_true rfl) () (kr_1.symm) [0, 1] rfl (by simp only [cn, if_pos kr_1]; rfl)

set_option maxHeartbeats 4000000 in
set_option maxRecDepth 100000 in
theorem m_X0_setWaves (l : Launch) (hst : l.stackTraces = false) (g : gG) (ad : Nat → Nat) (e0 : Nat) (mi : Nat → Int32) (lo su : Int64) (ig : Nat → Nat → Int32) (i a b de mx : Int32) (ou : Nat) (fo : Nat → Int64) : gHi l yX0_setWaves cX0_setWaves 8 .int [((0 : Nat), (16 : Nat), (19 : Nat), (13 : Nat)), ((0 : Nat), (16 : Nat), (23 : Nat), (15 : Nat))] 9 158 8 48 g [((ad 0), cM ad e0 mi lo su), ((ad 2), cA (ad 3) al4), ((ad 3), .inl (g.2.2.1, 10, .inr (.inr (.inr (.inr (iq ad)))))), ((ad 4), cI (ig 0)), ((ad 5), cI (ig 1)), ((ad 6), cI (ig 2)), ((ad 7), cI (ig 3)), (ou, .inl (g.2.2.2.1, 1, .inr (.inl fo)))] [.ref (ad 0), .int i, .int a, .int b, .int de, .int mx, .ref ou] (fun (r : Int32) (_ : Unit) => r = (k_waves i a b de mx)) (fun _ : Unit => [((ad 0), cM ad e0 mi lo su), ((ad 2), cA (ad 3) al4), ((ad 3), .inl (g.2.2.1, 10, .inr (.inr (.inr (.inr (iq ad)))))), ((ad 4), cI ((cn (k_waves i a b de mx) (va_up ig i.toNatClampNeg (s_wav (ig i.toNatClampNeg) a b de mx)) ig) 0)), ((ad 5), cI ((cn (k_waves i a b de mx) (va_up ig i.toNatClampNeg (s_wav (ig i.toNatClampNeg) a b de mx)) ig) 1)), ((ad 6), cI ((cn (k_waves i a b de mx) (va_up ig i.toNatClampNeg (s_wav (ig i.toNatClampNeg) a b de mx)) ig) 2)), ((ad 7), cI ((cn (k_waves i a b de mx) (va_up ig i.toNatClampNeg (s_wav (ig i.toNatClampNeg) a b de mx)) ig) 3)), (ou, .inl (g.2.2.2.1, 1, .inr (.inl (cn (k_waves i a b de mx) (vp_updL fo 0 (Int32.toInt64 (ig i.toNatClampNeg 3))) fo))))]) (fun E : String => False) := by
  intro sz
  refine g_hent (by decide) hst [(0, .ref (ad 0)), (1, .int i), (2, .int a), (3, .int b), (4, .int de), (5, .int mx), (6, .ref ou)] (Nat.le_of_ble_eq_true rfl) rfl ?_
  intro p e s m below meth c B hr hnm hsz hT
  have B : gB p l s m ([.ref (ad 0), .int i, .int a, .int b, .int de, .int mx, .ref ou] : List Value).toArray meth c RX0 cX0_setWaves 8 g (va_A [((ad 0), cM ad e0 mi lo su), ((ad 2), cA (ad 3) al4), ((ad 3), .inl (g.2.2.1, 10, .inr (.inr (.inr (.inr (iq ad)))))), ((ad 4), cI (ig 0)), ((ad 5), cI (ig 1)), ((ad 6), cI (ig 2)), ((ad 7), cI (ig 3)), (ou, .inl (g.2.2.2.1, 1, .inr (.inl fo)))] sz) := B
  have hA9 : (va_A [((ad 0), cM ad e0 mi lo su), ((ad 2), cA (ad 3) al4), ((ad 3), .inl (g.2.2.1, 10, .inr (.inr (.inr (.inr (iq ad)))))), ((ad 4), cI (ig 0)), ((ad 5), cI (ig 1)), ((ad 6), cI (ig 2)), ((ad 7), cI (ig 3)), (ou, .inl (g.2.2.2.1, 1, .inr (.inl fo)))] sz) = va_A [((ad 0), cM ad e0 mi lo su), ((ad 2), cA (ad 3) al4), ((ad 3), .inl (g.2.2.1, 10, .inr (.inr (.inr (.inr (iq ad)))))), ((ad 4), cI (ig 0)), ((ad 5), cI (ig 1)), ((ad 6), cI (ig 2)), ((ad 7), cI (ig 3)), (ou, .inl (g.2.2.2.1, 1, .inr (.inl fo)))] s.heap.size := by rw [hsz]
  subst hsz
  refine g_aload B 6 dX0_setWaves_0 rfl ?_
  refine g_iconst (v := 0) B dX0_setWaves_2 kc_0 ?_
  refine g_aload_n B 0 0 dX0_setWaves_3 rfl rfl ?_
  refine g_iload_n B 1 1 dX0_setWaves_4 rfl rfl ?_
  refine g_iload_n B 2 2 dX0_setWaves_5 rfl rfl ?_
  refine g_iload_n B 3 3 dX0_setWaves_6 rfl rfl ?_
  refine g_iload B 4 dX0_setWaves_7 rfl ?_
  refine g_iload B 5 dX0_setWaves_9 rfl ?_
  refine g_xV_i (C := RX1) (T := TX1) (N := 17) (As := [.int i, .int a, .int b, .int de, .int mx]) B (m_X1_setWaves l hst g ad e0 mi lo su ig i a b de mx) 0 0 rfl rfl [0, 1, 2, 3, 4, 5, 6] [.int 0, .ref ou] (lw_V q760 q761 q762 q26 q763) nvX1_setWaves rfl rfl (fun _ => rfl) rfl rfl (Nat.le_of_ble_eq_true rfl) dX0_setWaves_11 ⟨Nat.le_of_ble_eq_true rfl, Nat.le_of_ble_eq_true rfl⟩ ⟨Nat.le_of_ble_eq_true rfl, Nat.le_of_ble_eq_true rfl⟩ (fun E hE => ?_) (fun r_1 ur_1 hr_1 => ?_)
  · skip
    rcases hE with hE | hE
    · skip
      obtain ⟨rfl, hK9⟩ := hE
      have hN9 : ¬ (k_waves i a b de mx) = 0 := by rw [hK9]; decide
      refine g_catch (E := eIO) (name := "java/lang/IndexOutOfBoundsException") B [] ⟨0, 16, 19, 13⟩ [⟨0, 16, 23, 15⟩] hT (fun z hz => absurd hz List.not_mem_nil) (by decide) (by decide) q702 q674 (fun q9 => ?_)
      refine g_astore B [(7, .ref q9), (0, .ref (ad 0)), (1, .int i), (2, .int a), (3, .int b), (4, .int de), (5, .int mx), (6, .ref ou)] dX0_setWaves_19 (Nat.le_of_ble_eq_true rfl) rfl ?_
      refine g_iconst (v := 1) B dX0_setWaves_21 kc_1 ?_
      exact g_xiret B hr dX0_setWaves_22 (Nat.le_of_ble_eq_true rfl) (Nat.le_of_ble_eq_true rfl) () (hK9.symm) [0, 1, 2, 3, 4, 5, 6, 7] rfl (by simp only [cn, if_neg hN9]; rfl)
    · skip
      obtain ⟨rfl, hK9⟩ := hE
      have hN9 : ¬ (k_waves i a b de mx) = 0 := by rw [hK9]; decide
      refine g_catch (E := eIA) (name := "java/lang/IllegalArgumentException") B [⟨0, 16, 19, 13⟩] ⟨0, 16, 23, 15⟩ [] hT (fun z hz => by rw [List.mem_singleton.mp hz]; exact ⟨by decide, _, q702, B.N.2⟩) (by decide) (by decide) q735 q588 (fun q9 => ?_)
      refine g_astore B [(7, .ref q9), (0, .ref (ad 0)), (1, .int i), (2, .int a), (3, .int b), (4, .int de), (5, .int mx), (6, .ref ou)] dX0_setWaves_23 (Nat.le_of_ble_eq_true rfl) rfl ?_
      refine g_iconst (v := 2) B dX0_setWaves_25 kc_2 ?_
      exact g_xiret B hr dX0_setWaves_26 (Nat.le_of_ble_eq_true rfl) (Nat.le_of_ble_eq_true rfl) () (hK9.symm) [0, 1, 2, 3, 4, 5, 6, 7] rfl (by simp only [cn, if_neg hN9]; rfl)
  have kr_1 : (k_waves i a b de mx) = 0 := hr_1.1
  replace hr_1 := hr_1.2
  refine g_eqw (ws' := [((ad 0), cM ad e0 mi lo su), ((ad 2), cA (ad 3) al4), ((ad 3), .inl (g.2.2.1, 10, .inr (.inr (.inr (.inr (iq ad)))))), ((ad 4), cI ((va_up ig i.toNatClampNeg (s_wav (ig i.toNatClampNeg) a b de mx)) 0)), ((ad 5), cI ((va_up ig i.toNatClampNeg (s_wav (ig i.toNatClampNeg) a b de mx)) 1)), ((ad 6), cI ((va_up ig i.toNatClampNeg (s_wav (ig i.toNatClampNeg) a b de mx)) 2)), ((ad 7), cI ((va_up ig i.toNatClampNeg (s_wav (ig i.toNatClampNeg) a b de mx)) 3)), (ou, .inl (g.2.2.2.1, 1, .inr (.inl fo)))]) rfl ?_
  have hr_1 : r_1 = ig i.toNatClampNeg 3 := hr_1
  refine g_i2l B dX0_setWaves_14 ?_
  refine g_topl (fun x_2 ex_2 => ?_)
  refine g_last B 7 [((ad 0), cM ad e0 mi lo su), ((ad 2), cA (ad 3) al4), ((ad 3), .inl (g.2.2.1, 10, .inr (.inr (.inr (.inr (iq ad)))))), ((ad 4), cI ((va_up ig i.toNatClampNeg (s_wav (ig i.toNatClampNeg) a b de mx)) 0)), ((ad 5), cI ((va_up ig i.toNatClampNeg (s_wav (ig i.toNatClampNeg) a b de mx)) 1)), ((ad 6), cI ((va_up ig i.toNatClampNeg (s_wav (ig i.toNatClampNeg) a b de mx)) 2)), ((ad 7), cI ((va_up ig i.toNatClampNeg (s_wav (ig i.toNatClampNeg) a b de mx)) 3)), (ou, .inl (g.2.2.2.1, 1, .inr (.inl (vp_updL fo 0 x_2))))] rfl (vpc rfl) rfl dX0_setWaves_15 ?_
  refine g_goto (tgt := 27) B dX0_setWaves_16 (by decide) ?_
  refine g_iconst (v := 0) B dX0_setWaves_27 kc_0 ?_
  subst hr_1
  subst ex_2
  exact g_xiret B hr dX0_setWaves_28 (Nat.le_of_ble_eq_true rfl) (Nat.le_of_ble_eq_true rfl) () (kr_1.symm) [0, 1, 2, 3, 4, 5, 6, 7] rfl (by simp only [cn, if_pos kr_1]; rfl)

set_option maxHeartbeats 4000000 in
set_option maxRecDepth 100000 in
theorem m_X0_setEnvelope (l : Launch) (hst : l.stackTraces = false) (g : gG) (ad : Nat → Nat) (e0 : Nat) (mi : Nat → Int32) (lo su : Int64) (ig : Nat → Nat → Int32) (i a de u re : Int32) (ou : Nat) (fo : Nat → Int64) : gHi l yX0_setEnvelope cX0_setEnvelope 8 .int [((0 : Nat), (16 : Nat), (19 : Nat), (13 : Nat)), ((0 : Nat), (16 : Nat), (23 : Nat), (15 : Nat))] 9 158 8 48 g [((ad 0), cM ad e0 mi lo su), ((ad 2), cA (ad 3) al4), ((ad 3), .inl (g.2.2.1, 10, .inr (.inr (.inr (.inr (iq ad)))))), ((ad 4), cI (ig 0)), ((ad 5), cI (ig 1)), ((ad 6), cI (ig 2)), ((ad 7), cI (ig 3)), (ou, .inl (g.2.2.2.1, 1, .inr (.inl fo)))] [.ref (ad 0), .int i, .int a, .int de, .int u, .int re, .ref ou] (fun (r : Int32) (_ : Unit) => r = (k_env i a de u re)) (fun _ : Unit => [((ad 0), cM ad e0 mi lo su), ((ad 2), cA (ad 3) al4), ((ad 3), .inl (g.2.2.1, 10, .inr (.inr (.inr (.inr (iq ad)))))), ((ad 4), cI ((cn (k_env i a de u re) (va_up ig i.toNatClampNeg (s_env (ig i.toNatClampNeg) a de u re)) ig) 0)), ((ad 5), cI ((cn (k_env i a de u re) (va_up ig i.toNatClampNeg (s_env (ig i.toNatClampNeg) a de u re)) ig) 1)), ((ad 6), cI ((cn (k_env i a de u re) (va_up ig i.toNatClampNeg (s_env (ig i.toNatClampNeg) a de u re)) ig) 2)), ((ad 7), cI ((cn (k_env i a de u re) (va_up ig i.toNatClampNeg (s_env (ig i.toNatClampNeg) a de u re)) ig) 3)), (ou, .inl (g.2.2.2.1, 1, .inr (.inl (cn (k_env i a de u re) (vp_updL fo 0 (Int32.toInt64 (ig i.toNatClampNeg 6))) fo))))]) (fun E : String => False) := by
  intro sz
  refine g_hent (by decide) hst [(0, .ref (ad 0)), (1, .int i), (2, .int a), (3, .int de), (4, .int u), (5, .int re), (6, .ref ou)] (Nat.le_of_ble_eq_true rfl) rfl ?_
  intro p e s m below meth c B hr hnm hsz hT
  have B : gB p l s m ([.ref (ad 0), .int i, .int a, .int de, .int u, .int re, .ref ou] : List Value).toArray meth c RX0 cX0_setEnvelope 8 g (va_A [((ad 0), cM ad e0 mi lo su), ((ad 2), cA (ad 3) al4), ((ad 3), .inl (g.2.2.1, 10, .inr (.inr (.inr (.inr (iq ad)))))), ((ad 4), cI (ig 0)), ((ad 5), cI (ig 1)), ((ad 6), cI (ig 2)), ((ad 7), cI (ig 3)), (ou, .inl (g.2.2.2.1, 1, .inr (.inl fo)))] sz) := B
  have hA9 : (va_A [((ad 0), cM ad e0 mi lo su), ((ad 2), cA (ad 3) al4), ((ad 3), .inl (g.2.2.1, 10, .inr (.inr (.inr (.inr (iq ad)))))), ((ad 4), cI (ig 0)), ((ad 5), cI (ig 1)), ((ad 6), cI (ig 2)), ((ad 7), cI (ig 3)), (ou, .inl (g.2.2.2.1, 1, .inr (.inl fo)))] sz) = va_A [((ad 0), cM ad e0 mi lo su), ((ad 2), cA (ad 3) al4), ((ad 3), .inl (g.2.2.1, 10, .inr (.inr (.inr (.inr (iq ad)))))), ((ad 4), cI (ig 0)), ((ad 5), cI (ig 1)), ((ad 6), cI (ig 2)), ((ad 7), cI (ig 3)), (ou, .inl (g.2.2.2.1, 1, .inr (.inl fo)))] s.heap.size := by rw [hsz]
  subst hsz
  refine g_aload B 6 dX0_setEnvelope_0 rfl ?_
  refine g_iconst (v := 0) B dX0_setEnvelope_2 kc_0 ?_
  refine g_aload_n B 0 0 dX0_setEnvelope_3 rfl rfl ?_
  refine g_iload_n B 1 1 dX0_setEnvelope_4 rfl rfl ?_
  refine g_iload_n B 2 2 dX0_setEnvelope_5 rfl rfl ?_
  refine g_iload_n B 3 3 dX0_setEnvelope_6 rfl rfl ?_
  refine g_iload B 4 dX0_setEnvelope_7 rfl ?_
  refine g_iload B 5 dX0_setEnvelope_9 rfl ?_
  refine g_xV_i (C := RX1) (T := TX1) (N := 17) (As := [.int i, .int a, .int de, .int u, .int re]) B (m_X1_setEnvelope l hst g ad e0 mi lo su ig i a de u re) 0 0 rfl rfl [0, 1, 2, 3, 4, 5, 6] [.int 0, .ref ou] (lw_V q771 q772 q773 q26 q774) nvX1_setEnvelope rfl rfl (fun _ => rfl) rfl rfl (Nat.le_of_ble_eq_true rfl) dX0_setEnvelope_11 ⟨Nat.le_of_ble_eq_true rfl, Nat.le_of_ble_eq_true rfl⟩ ⟨Nat.le_of_ble_eq_true rfl, Nat.le_of_ble_eq_true rfl⟩ (fun E hE => ?_) (fun r_1 ur_1 hr_1 => ?_)
  · skip
    rcases hE with hE | hE
    · skip
      obtain ⟨rfl, hK9⟩ := hE
      have hN9 : ¬ (k_env i a de u re) = 0 := by rw [hK9]; decide
      refine g_catch (E := eIO) (name := "java/lang/IndexOutOfBoundsException") B [] ⟨0, 16, 19, 13⟩ [⟨0, 16, 23, 15⟩] hT (fun z hz => absurd hz List.not_mem_nil) (by decide) (by decide) q702 q674 (fun q9 => ?_)
      refine g_astore B [(7, .ref q9), (0, .ref (ad 0)), (1, .int i), (2, .int a), (3, .int de), (4, .int u), (5, .int re), (6, .ref ou)] dX0_setEnvelope_19 (Nat.le_of_ble_eq_true rfl) rfl ?_
      refine g_iconst (v := 1) B dX0_setEnvelope_21 kc_1 ?_
      exact g_xiret B hr dX0_setEnvelope_22 (Nat.le_of_ble_eq_true rfl) (Nat.le_of_ble_eq_true rfl) () (hK9.symm) [0, 1, 2, 3, 4, 5, 6, 7] rfl (by simp only [cn, if_neg hN9]; rfl)
    · skip
      obtain ⟨rfl, hK9⟩ := hE
      have hN9 : ¬ (k_env i a de u re) = 0 := by rw [hK9]; decide
      refine g_catch (E := eIA) (name := "java/lang/IllegalArgumentException") B [⟨0, 16, 19, 13⟩] ⟨0, 16, 23, 15⟩ [] hT (fun z hz => by rw [List.mem_singleton.mp hz]; exact ⟨by decide, _, q702, B.N.2⟩) (by decide) (by decide) q735 q588 (fun q9 => ?_)
      refine g_astore B [(7, .ref q9), (0, .ref (ad 0)), (1, .int i), (2, .int a), (3, .int de), (4, .int u), (5, .int re), (6, .ref ou)] dX0_setEnvelope_23 (Nat.le_of_ble_eq_true rfl) rfl ?_
      refine g_iconst (v := 2) B dX0_setEnvelope_25 kc_2 ?_
      exact g_xiret B hr dX0_setEnvelope_26 (Nat.le_of_ble_eq_true rfl) (Nat.le_of_ble_eq_true rfl) () (hK9.symm) [0, 1, 2, 3, 4, 5, 6, 7] rfl (by simp only [cn, if_neg hN9]; rfl)
  have kr_1 : (k_env i a de u re) = 0 := hr_1.1
  replace hr_1 := hr_1.2
  refine g_eqw (ws' := [((ad 0), cM ad e0 mi lo su), ((ad 2), cA (ad 3) al4), ((ad 3), .inl (g.2.2.1, 10, .inr (.inr (.inr (.inr (iq ad)))))), ((ad 4), cI ((va_up ig i.toNatClampNeg (s_env (ig i.toNatClampNeg) a de u re)) 0)), ((ad 5), cI ((va_up ig i.toNatClampNeg (s_env (ig i.toNatClampNeg) a de u re)) 1)), ((ad 6), cI ((va_up ig i.toNatClampNeg (s_env (ig i.toNatClampNeg) a de u re)) 2)), ((ad 7), cI ((va_up ig i.toNatClampNeg (s_env (ig i.toNatClampNeg) a de u re)) 3)), (ou, .inl (g.2.2.2.1, 1, .inr (.inl fo)))]) rfl ?_
  have hr_1 : r_1 = ig i.toNatClampNeg 6 := hr_1
  refine g_i2l B dX0_setEnvelope_14 ?_
  refine g_topl (fun x_2 ex_2 => ?_)
  refine g_last B 7 [((ad 0), cM ad e0 mi lo su), ((ad 2), cA (ad 3) al4), ((ad 3), .inl (g.2.2.1, 10, .inr (.inr (.inr (.inr (iq ad)))))), ((ad 4), cI ((va_up ig i.toNatClampNeg (s_env (ig i.toNatClampNeg) a de u re)) 0)), ((ad 5), cI ((va_up ig i.toNatClampNeg (s_env (ig i.toNatClampNeg) a de u re)) 1)), ((ad 6), cI ((va_up ig i.toNatClampNeg (s_env (ig i.toNatClampNeg) a de u re)) 2)), ((ad 7), cI ((va_up ig i.toNatClampNeg (s_env (ig i.toNatClampNeg) a de u re)) 3)), (ou, .inl (g.2.2.2.1, 1, .inr (.inl (vp_updL fo 0 x_2))))] rfl (vpc rfl) rfl dX0_setEnvelope_15 ?_
  refine g_goto (tgt := 27) B dX0_setEnvelope_16 (by decide) ?_
  refine g_iconst (v := 0) B dX0_setEnvelope_27 kc_0 ?_
  subst hr_1
  subst ex_2
  exact g_xiret B hr dX0_setEnvelope_28 (Nat.le_of_ble_eq_true rfl) (Nat.le_of_ble_eq_true rfl) () (kr_1.symm) [0, 1, 2, 3, 4, 5, 6, 7] rfl (by simp only [cn, if_pos kr_1]; rfl)

set_option maxHeartbeats 4000000 in
set_option maxRecDepth 100000 in
theorem m_X0_setFilter (l : Launch) (hst : l.stackTraces = false) (g : gG) (ad : Nat → Nat) (e0 : Nat) (mi : Nat → Int32) (lo su : Int64) (ig : Nat → Nat → Int32) (i cu da : Int32) (ou : Nat) (fo : Nat → Int64) : gHi l yX0_setFilter cX0_setFilter 6 .int [((0 : Nat), (12 : Nat), (15 : Nat), (13 : Nat)), ((0 : Nat), (12 : Nat), (19 : Nat), (15 : Nat))] 9 156 8 48 g [((ad 0), cM ad e0 mi lo su), ((ad 2), cA (ad 3) al4), ((ad 3), .inl (g.2.2.1, 10, .inr (.inr (.inr (.inr (iq ad)))))), ((ad 4), cI (ig 0)), ((ad 5), cI (ig 1)), ((ad 6), cI (ig 2)), ((ad 7), cI (ig 3)), (ou, .inl (g.2.2.2.1, 1, .inr (.inl fo)))] [.ref (ad 0), .int i, .int cu, .int da, .ref ou] (fun (r : Int32) (_ : Unit) => r = (k_filter i cu da)) (fun _ : Unit => [((ad 0), cM ad e0 mi lo su), ((ad 2), cA (ad 3) al4), ((ad 3), .inl (g.2.2.1, 10, .inr (.inr (.inr (.inr (iq ad)))))), ((ad 4), cI ((cn (k_filter i cu da) (va_up ig i.toNatClampNeg (s_fil (ig i.toNatClampNeg) cu da)) ig) 0)), ((ad 5), cI ((cn (k_filter i cu da) (va_up ig i.toNatClampNeg (s_fil (ig i.toNatClampNeg) cu da)) ig) 1)), ((ad 6), cI ((cn (k_filter i cu da) (va_up ig i.toNatClampNeg (s_fil (ig i.toNatClampNeg) cu da)) ig) 2)), ((ad 7), cI ((cn (k_filter i cu da) (va_up ig i.toNatClampNeg (s_fil (ig i.toNatClampNeg) cu da)) ig) 3)), (ou, .inl (g.2.2.2.1, 1, .inr (.inl (cn (k_filter i cu da) (vp_updL fo 0 (Int32.toInt64 (ig i.toNatClampNeg 8))) fo))))]) (fun E : String => False) := by
  intro sz
  refine g_hent (by decide) hst [(0, .ref (ad 0)), (1, .int i), (2, .int cu), (3, .int da), (4, .ref ou)] (Nat.le_of_ble_eq_true rfl) rfl ?_
  intro p e s m below meth c B hr hnm hsz hT
  have B : gB p l s m ([.ref (ad 0), .int i, .int cu, .int da, .ref ou] : List Value).toArray meth c RX0 cX0_setFilter 6 g (va_A [((ad 0), cM ad e0 mi lo su), ((ad 2), cA (ad 3) al4), ((ad 3), .inl (g.2.2.1, 10, .inr (.inr (.inr (.inr (iq ad)))))), ((ad 4), cI (ig 0)), ((ad 5), cI (ig 1)), ((ad 6), cI (ig 2)), ((ad 7), cI (ig 3)), (ou, .inl (g.2.2.2.1, 1, .inr (.inl fo)))] sz) := B
  have hA9 : (va_A [((ad 0), cM ad e0 mi lo su), ((ad 2), cA (ad 3) al4), ((ad 3), .inl (g.2.2.1, 10, .inr (.inr (.inr (.inr (iq ad)))))), ((ad 4), cI (ig 0)), ((ad 5), cI (ig 1)), ((ad 6), cI (ig 2)), ((ad 7), cI (ig 3)), (ou, .inl (g.2.2.2.1, 1, .inr (.inl fo)))] sz) = va_A [((ad 0), cM ad e0 mi lo su), ((ad 2), cA (ad 3) al4), ((ad 3), .inl (g.2.2.1, 10, .inr (.inr (.inr (.inr (iq ad)))))), ((ad 4), cI (ig 0)), ((ad 5), cI (ig 1)), ((ad 6), cI (ig 2)), ((ad 7), cI (ig 3)), (ou, .inl (g.2.2.2.1, 1, .inr (.inl fo)))] s.heap.size := by rw [hsz]
  subst hsz
  refine g_aload B 4 dX0_setFilter_0 rfl ?_
  refine g_iconst (v := 0) B dX0_setFilter_2 kc_0 ?_
  refine g_aload_n B 0 0 dX0_setFilter_3 rfl rfl ?_
  refine g_iload_n B 1 1 dX0_setFilter_4 rfl rfl ?_
  refine g_iload_n B 2 2 dX0_setFilter_5 rfl rfl ?_
  refine g_iload_n B 3 3 dX0_setFilter_6 rfl rfl ?_
  refine g_xV_i (C := RX1) (T := TX1) (N := 17) (As := [.int i, .int cu, .int da]) B (m_X1_setFilter l hst g ad e0 mi lo su ig i cu da) 0 0 rfl rfl [0, 1, 2, 3, 4, 5, 6] [.int 0, .ref ou] (lw_V q778 q779 q780 q26 q781) nvX1_setFilter rfl rfl (fun _ => rfl) rfl rfl (Nat.le_of_ble_eq_true rfl) dX0_setFilter_7 ⟨Nat.le_of_ble_eq_true rfl, Nat.le_of_ble_eq_true rfl⟩ ⟨Nat.le_of_ble_eq_true rfl, Nat.le_of_ble_eq_true rfl⟩ (fun E hE => ?_) (fun r_1 ur_1 hr_1 => ?_)
  · skip
    rcases hE with hE | hE
    · skip
      obtain ⟨rfl, hK9⟩ := hE
      have hN9 : ¬ (k_filter i cu da) = 0 := by rw [hK9]; decide
      refine g_catch (E := eIO) (name := "java/lang/IndexOutOfBoundsException") B [] ⟨0, 12, 15, 13⟩ [⟨0, 12, 19, 15⟩] hT (fun z hz => absurd hz List.not_mem_nil) (by decide) (by decide) q702 q674 (fun q9 => ?_)
      refine g_astore B [(5, .ref q9), (0, .ref (ad 0)), (1, .int i), (2, .int cu), (3, .int da), (4, .ref ou)] dX0_setFilter_15 (Nat.le_of_ble_eq_true rfl) rfl ?_
      refine g_iconst (v := 1) B dX0_setFilter_17 kc_1 ?_
      exact g_xiret B hr dX0_setFilter_18 (Nat.le_of_ble_eq_true rfl) (Nat.le_of_ble_eq_true rfl) () (hK9.symm) [0, 1, 2, 3, 4, 5, 6, 7] rfl (by simp only [cn, if_neg hN9]; rfl)
    · skip
      obtain ⟨rfl, hK9⟩ := hE
      have hN9 : ¬ (k_filter i cu da) = 0 := by rw [hK9]; decide
      refine g_catch (E := eIA) (name := "java/lang/IllegalArgumentException") B [⟨0, 12, 15, 13⟩] ⟨0, 12, 19, 15⟩ [] hT (fun z hz => by rw [List.mem_singleton.mp hz]; exact ⟨by decide, _, q702, B.N.2⟩) (by decide) (by decide) q735 q588 (fun q9 => ?_)
      refine g_astore B [(5, .ref q9), (0, .ref (ad 0)), (1, .int i), (2, .int cu), (3, .int da), (4, .ref ou)] dX0_setFilter_19 (Nat.le_of_ble_eq_true rfl) rfl ?_
      refine g_iconst (v := 2) B dX0_setFilter_21 kc_2 ?_
      exact g_xiret B hr dX0_setFilter_22 (Nat.le_of_ble_eq_true rfl) (Nat.le_of_ble_eq_true rfl) () (hK9.symm) [0, 1, 2, 3, 4, 5, 6, 7] rfl (by simp only [cn, if_neg hN9]; rfl)
  have kr_1 : (k_filter i cu da) = 0 := hr_1.1
  replace hr_1 := hr_1.2
  refine g_eqw (ws' := [((ad 0), cM ad e0 mi lo su), ((ad 2), cA (ad 3) al4), ((ad 3), .inl (g.2.2.1, 10, .inr (.inr (.inr (.inr (iq ad)))))), ((ad 4), cI ((va_up ig i.toNatClampNeg (s_fil (ig i.toNatClampNeg) cu da)) 0)), ((ad 5), cI ((va_up ig i.toNatClampNeg (s_fil (ig i.toNatClampNeg) cu da)) 1)), ((ad 6), cI ((va_up ig i.toNatClampNeg (s_fil (ig i.toNatClampNeg) cu da)) 2)), ((ad 7), cI ((va_up ig i.toNatClampNeg (s_fil (ig i.toNatClampNeg) cu da)) 3)), (ou, .inl (g.2.2.2.1, 1, .inr (.inl fo)))]) rfl ?_
  have hr_1 : r_1 = ig i.toNatClampNeg 8 := hr_1
  refine g_i2l B dX0_setFilter_10 ?_
  refine g_topl (fun x_2 ex_2 => ?_)
  refine g_last B 7 [((ad 0), cM ad e0 mi lo su), ((ad 2), cA (ad 3) al4), ((ad 3), .inl (g.2.2.1, 10, .inr (.inr (.inr (.inr (iq ad)))))), ((ad 4), cI ((va_up ig i.toNatClampNeg (s_fil (ig i.toNatClampNeg) cu da)) 0)), ((ad 5), cI ((va_up ig i.toNatClampNeg (s_fil (ig i.toNatClampNeg) cu da)) 1)), ((ad 6), cI ((va_up ig i.toNatClampNeg (s_fil (ig i.toNatClampNeg) cu da)) 2)), ((ad 7), cI ((va_up ig i.toNatClampNeg (s_fil (ig i.toNatClampNeg) cu da)) 3)), (ou, .inl (g.2.2.2.1, 1, .inr (.inl (vp_updL fo 0 x_2))))] rfl (vpc rfl) rfl dX0_setFilter_11 ?_
  refine g_goto (tgt := 23) B dX0_setFilter_12 (by decide) ?_
  refine g_iconst (v := 0) B dX0_setFilter_23 kc_0 ?_
  subst hr_1
  subst ex_2
  exact g_xiret B hr dX0_setFilter_24 (Nat.le_of_ble_eq_true rfl) (Nat.le_of_ble_eq_true rfl) () (kr_1.symm) [0, 1, 2, 3, 4, 5, 6, 7] rfl (by simp only [cn, if_pos kr_1]; rfl)

set_option maxHeartbeats 4000000 in
set_option maxRecDepth 100000 in
theorem m_X0_setVibrato (l : Launch) (hst : l.stackTraces = false) (g : gG) (ad : Nat → Nat) (e0 : Nat) (mi : Nat → Int32) (lo su : Int64) (ig : Nat → Nat → Int32) (i de pe : Int32) (ou : Nat) (fo : Nat → Int64) : gHi l yX0_setVibrato cX0_setVibrato 6 .int [((0 : Nat), (12 : Nat), (15 : Nat), (13 : Nat)), ((0 : Nat), (12 : Nat), (19 : Nat), (15 : Nat))] 9 156 8 48 g [((ad 0), cM ad e0 mi lo su), ((ad 2), cA (ad 3) al4), ((ad 3), .inl (g.2.2.1, 10, .inr (.inr (.inr (.inr (iq ad)))))), ((ad 4), cI (ig 0)), ((ad 5), cI (ig 1)), ((ad 6), cI (ig 2)), ((ad 7), cI (ig 3)), (ou, .inl (g.2.2.2.1, 1, .inr (.inl fo)))] [.ref (ad 0), .int i, .int de, .int pe, .ref ou] (fun (r : Int32) (_ : Unit) => r = (k_vib i de pe)) (fun _ : Unit => [((ad 0), cM ad e0 mi lo su), ((ad 2), cA (ad 3) al4), ((ad 3), .inl (g.2.2.1, 10, .inr (.inr (.inr (.inr (iq ad)))))), ((ad 4), cI ((cn (k_vib i de pe) (va_up ig i.toNatClampNeg (s_vib (ig i.toNatClampNeg) de pe)) ig) 0)), ((ad 5), cI ((cn (k_vib i de pe) (va_up ig i.toNatClampNeg (s_vib (ig i.toNatClampNeg) de pe)) ig) 1)), ((ad 6), cI ((cn (k_vib i de pe) (va_up ig i.toNatClampNeg (s_vib (ig i.toNatClampNeg) de pe)) ig) 2)), ((ad 7), cI ((cn (k_vib i de pe) (va_up ig i.toNatClampNeg (s_vib (ig i.toNatClampNeg) de pe)) ig) 3)), (ou, .inl (g.2.2.2.1, 1, .inr (.inl (cn (k_vib i de pe) (vp_updL fo 0 (Int32.toInt64 (ig i.toNatClampNeg 10))) fo))))]) (fun E : String => False) := by
  intro sz
  refine g_hent (by decide) hst [(0, .ref (ad 0)), (1, .int i), (2, .int de), (3, .int pe), (4, .ref ou)] (Nat.le_of_ble_eq_true rfl) rfl ?_
  intro p e s m below meth c B hr hnm hsz hT
  have B : gB p l s m ([.ref (ad 0), .int i, .int de, .int pe, .ref ou] : List Value).toArray meth c RX0 cX0_setVibrato 6 g (va_A [((ad 0), cM ad e0 mi lo su), ((ad 2), cA (ad 3) al4), ((ad 3), .inl (g.2.2.1, 10, .inr (.inr (.inr (.inr (iq ad)))))), ((ad 4), cI (ig 0)), ((ad 5), cI (ig 1)), ((ad 6), cI (ig 2)), ((ad 7), cI (ig 3)), (ou, .inl (g.2.2.2.1, 1, .inr (.inl fo)))] sz) := B
  have hA9 : (va_A [((ad 0), cM ad e0 mi lo su), ((ad 2), cA (ad 3) al4), ((ad 3), .inl (g.2.2.1, 10, .inr (.inr (.inr (.inr (iq ad)))))), ((ad 4), cI (ig 0)), ((ad 5), cI (ig 1)), ((ad 6), cI (ig 2)), ((ad 7), cI (ig 3)), (ou, .inl (g.2.2.2.1, 1, .inr (.inl fo)))] sz) = va_A [((ad 0), cM ad e0 mi lo su), ((ad 2), cA (ad 3) al4), ((ad 3), .inl (g.2.2.1, 10, .inr (.inr (.inr (.inr (iq ad)))))), ((ad 4), cI (ig 0)), ((ad 5), cI (ig 1)), ((ad 6), cI (ig 2)), ((ad 7), cI (ig 3)), (ou, .inl (g.2.2.2.1, 1, .inr (.inl fo)))] s.heap.size := by rw [hsz]
  subst hsz
  refine g_aload B 4 dX0_setVibrato_0 rfl ?_
  refine g_iconst (v := 0) B dX0_setVibrato_2 kc_0 ?_
  refine g_aload_n B 0 0 dX0_setVibrato_3 rfl rfl ?_
  refine g_iload_n B 1 1 dX0_setVibrato_4 rfl rfl ?_
  refine g_iload_n B 2 2 dX0_setVibrato_5 rfl rfl ?_
  refine g_iload_n B 3 3 dX0_setVibrato_6 rfl rfl ?_
  refine g_xV_i (C := RX1) (T := TX1) (N := 17) (As := [.int i, .int de, .int pe]) B (m_X1_setVibrato l hst g ad e0 mi lo su ig i de pe) 0 0 rfl rfl [0, 1, 2, 3, 4, 5, 6] [.int 0, .ref ou] (lw_V q785 q786 q787 q26 q788) nvX1_setVibrato rfl rfl (fun _ => rfl) rfl rfl (Nat.le_of_ble_eq_true rfl) dX0_setVibrato_7 ⟨Nat.le_of_ble_eq_true rfl, Nat.le_of_ble_eq_true rfl⟩ ⟨Nat.le_of_ble_eq_true rfl, Nat.le_of_ble_eq_true rfl⟩ (fun E hE => ?_) (fun r_1 ur_1 hr_1 => ?_)
  · skip
    rcases hE with hE | hE
    · skip
      obtain ⟨rfl, hK9⟩ := hE
      have hN9 : ¬ (k_vib i de pe) = 0 := by rw [hK9]; decide
      refine g_catch (E := eIO) (name := "java/lang/IndexOutOfBoundsException") B [] ⟨0, 12, 15, 13⟩ [⟨0, 12, 19, 15⟩] hT (fun z hz => absurd hz List.not_mem_nil) (by decide) (by decide) q702 q674 (fun q9 => ?_)
      refine g_astore B [(5, .ref q9), (0, .ref (ad 0)), (1, .int i), (2, .int de), (3, .int pe), (4, .ref ou)] dX0_setVibrato_15 (Nat.le_of_ble_eq_true rfl) rfl ?_
      refine g_iconst (v := 1) B dX0_setVibrato_17 kc_1 ?_
      exact g_xiret B hr dX0_setVibrato_18 (Nat.le_of_ble_eq_true rfl) (Nat.le_of_ble_eq_true rfl) () (hK9.symm) [0, 1, 2, 3, 4, 5, 6, 7] rfl (by simp only [cn, if_neg hN9]; rfl)
    · skip
      obtain ⟨rfl, hK9⟩ := hE
      have hN9 : ¬ (k_vib i de pe) = 0 := by rw [hK9]; decide
      refine g_catch (E := eIA) (name := "java/lang/IllegalArgumentException") B [⟨0, 12, 15, 13⟩] ⟨0, 12, 19, 15⟩ [] hT (fun z hz => by rw [List.mem_singleton.mp hz]; exact ⟨by decide, _, q702, B.N.2⟩) (by decide) (by decide) q735 q588 (fun q9 => ?_)
      refine g_astore B [(5, .ref q9), (0, .ref (ad 0)), (1, .int i), (2, .int de), (3, .int pe), (4, .ref ou)] dX0_setVibrato_19 (Nat.le_of_ble_eq_true rfl) rfl ?_
      refine g_iconst (v := 2) B dX0_setVibrato_21 kc_2 ?_
      exact g_xiret B hr dX0_setVibrato_22 (Nat.le_of_ble_eq_true rfl) (Nat.le_of_ble_eq_true rfl) () (hK9.symm) [0, 1, 2, 3, 4, 5, 6, 7] rfl (by simp only [cn, if_neg hN9]; rfl)
  have kr_1 : (k_vib i de pe) = 0 := hr_1.1
  replace hr_1 := hr_1.2
  refine g_eqw (ws' := [((ad 0), cM ad e0 mi lo su), ((ad 2), cA (ad 3) al4), ((ad 3), .inl (g.2.2.1, 10, .inr (.inr (.inr (.inr (iq ad)))))), ((ad 4), cI ((va_up ig i.toNatClampNeg (s_vib (ig i.toNatClampNeg) de pe)) 0)), ((ad 5), cI ((va_up ig i.toNatClampNeg (s_vib (ig i.toNatClampNeg) de pe)) 1)), ((ad 6), cI ((va_up ig i.toNatClampNeg (s_vib (ig i.toNatClampNeg) de pe)) 2)), ((ad 7), cI ((va_up ig i.toNatClampNeg (s_vib (ig i.toNatClampNeg) de pe)) 3)), (ou, .inl (g.2.2.2.1, 1, .inr (.inl fo)))]) rfl ?_
  have hr_1 : r_1 = ig i.toNatClampNeg 10 := hr_1
  refine g_i2l B dX0_setVibrato_10 ?_
  refine g_topl (fun x_2 ex_2 => ?_)
  refine g_last B 7 [((ad 0), cM ad e0 mi lo su), ((ad 2), cA (ad 3) al4), ((ad 3), .inl (g.2.2.1, 10, .inr (.inr (.inr (.inr (iq ad)))))), ((ad 4), cI ((va_up ig i.toNatClampNeg (s_vib (ig i.toNatClampNeg) de pe)) 0)), ((ad 5), cI ((va_up ig i.toNatClampNeg (s_vib (ig i.toNatClampNeg) de pe)) 1)), ((ad 6), cI ((va_up ig i.toNatClampNeg (s_vib (ig i.toNatClampNeg) de pe)) 2)), ((ad 7), cI ((va_up ig i.toNatClampNeg (s_vib (ig i.toNatClampNeg) de pe)) 3)), (ou, .inl (g.2.2.2.1, 1, .inr (.inl (vp_updL fo 0 x_2))))] rfl (vpc rfl) rfl dX0_setVibrato_11 ?_
  refine g_goto (tgt := 23) B dX0_setVibrato_12 (by decide) ?_
  refine g_iconst (v := 0) B dX0_setVibrato_23 kc_0 ?_
  subst hr_1
  subst ex_2
  exact g_xiret B hr dX0_setVibrato_24 (Nat.le_of_ble_eq_true rfl) (Nat.le_of_ble_eq_true rfl) () (kr_1.symm) [0, 1, 2, 3, 4, 5, 6, 7] rfl (by simp only [cn, if_pos kr_1]; rfl)

set_option maxHeartbeats 4000000 in
set_option maxRecDepth 100000 in
theorem m_X0_setGain (l : Launch) (hst : l.stackTraces = false) (g : gG) (ad : Nat → Nat) (e0 : Nat) (mi : Nat → Int32) (lo su : Int64) (v : Int32) (ou : Nat) (fo : Nat → Int64) : gHi l yX0_setGain cX0_setGain 4 .int [((0 : Nat), (9 : Nat), (12 : Nat), (15 : Nat))] 9 153 8 48 g [((ad 0), cM ad e0 mi lo su), (ou, .inl (g.2.2.2.1, 1, .inr (.inl fo)))] [.ref (ad 0), .int v, .ref ou] (fun (r : Int32) (_ : Unit) => r = (k_gain v)) (fun _ : Unit => [((ad 0), cM ad e0 (cn (k_gain v) (upd mi 2 v) mi) lo su), (ou, .inl (g.2.2.2.1, 1, .inr (.inl (cn (k_gain v) (vp_updL fo 0 (Int32.toInt64 (mi 2))) fo))))]) (fun E : String => False) := by
  intro sz
  refine g_hent (by decide) hst [(0, .ref (ad 0)), (1, .int v), (2, .ref ou)] (Nat.le_of_ble_eq_true rfl) rfl ?_
  intro p e s m below meth c B hr hnm hsz hT
  have B : gB p l s m ([.ref (ad 0), .int v, .ref ou] : List Value).toArray meth c RX0 cX0_setGain 4 g (va_A [((ad 0), cM ad e0 mi lo su), (ou, .inl (g.2.2.2.1, 1, .inr (.inl fo)))] sz) := B
  have hA9 : (va_A [((ad 0), cM ad e0 mi lo su), (ou, .inl (g.2.2.2.1, 1, .inr (.inl fo)))] sz) = va_A [((ad 0), cM ad e0 mi lo su), (ou, .inl (g.2.2.2.1, 1, .inr (.inl fo)))] s.heap.size := by rw [hsz]
  subst hsz
  refine g_aload_n B 2 2 dX0_setGain_0 rfl rfl ?_
  refine g_iconst (v := 0) B dX0_setGain_1 kc_0 ?_
  refine g_aload_n B 0 0 dX0_setGain_2 rfl rfl ?_
  refine g_iload_n B 1 1 dX0_setGain_3 rfl rfl ?_
  refine g_xV_i (C := RX1) (T := TX1) (N := 17) (As := [.int v]) B (m_X1_setGain l hst g ad e0 mi lo su v) 0 0 rfl rfl [0] [.int 0, .ref ou] (lw_V q792 q793 q794 q26 q795) nvX1_setGain rfl rfl (fun _ => rfl) rfl rfl (Nat.le_of_ble_eq_true rfl) dX0_setGain_4 ⟨Nat.le_of_ble_eq_true rfl, Nat.le_of_ble_eq_true rfl⟩ ⟨Nat.le_of_ble_eq_true rfl, Nat.le_of_ble_eq_true rfl⟩ (fun E hE => ?_) (fun r_1 ur_1 hr_1 => ?_)
  · skip
    obtain ⟨rfl, hK9⟩ := hE
    have hN9 : ¬ (k_gain v) = 0 := by rw [hK9]; decide
    refine g_catch (E := eIA) (name := "java/lang/IllegalArgumentException") B [] ⟨0, 9, 12, 15⟩ [] hT (fun z hz => absurd hz List.not_mem_nil) (by decide) (by decide) q735 q588 (fun q9 => ?_)
    refine g_astore_n B 3 [(3, .ref q9), (0, .ref (ad 0)), (1, .int v), (2, .ref ou)] dX0_setGain_12 rfl (Nat.le_of_ble_eq_true rfl) rfl ?_
    refine g_iconst (v := 1) B dX0_setGain_13 kc_1 ?_
    exact g_xiret B hr dX0_setGain_14 (Nat.le_of_ble_eq_true rfl) (Nat.le_of_ble_eq_true rfl) () (hK9.symm) [0, 1] rfl (by simp only [cn, if_neg hN9]; rfl)
  have kr_1 : (k_gain v) = 0 := hr_1.1
  replace hr_1 := hr_1.2
  refine g_eqw (ws' := [((ad 0), cM ad e0 (upd mi 2 v) lo su), (ou, .inl (g.2.2.2.1, 1, .inr (.inl fo)))]) rfl ?_
  have hr_1 : r_1 = mi 2 := hr_1
  refine g_i2l B dX0_setGain_7 ?_
  refine g_topl (fun x_2 ex_2 => ?_)
  refine g_last B 1 [((ad 0), cM ad e0 (upd mi 2 v) lo su), (ou, .inl (g.2.2.2.1, 1, .inr (.inl (vp_updL fo 0 x_2))))] rfl (vpc rfl) rfl dX0_setGain_8 ?_
  refine g_goto (tgt := 15) B dX0_setGain_9 (by decide) ?_
  refine g_iconst (v := 0) B dX0_setGain_15 kc_0 ?_
  subst hr_1
  subst ex_2
  exact g_xiret B hr dX0_setGain_16 (Nat.le_of_ble_eq_true rfl) (Nat.le_of_ble_eq_true rfl) () (kr_1.symm) [0, 1] rfl (by simp only [cn, if_pos kr_1]; rfl)
