/-! contracts: small public methods -/
set_option maxRecDepth 100000
theorem kb_47 : (Int8.ofInt 47).toInt32 = 47 := by decide
theorem ks_200 : (Int16.ofInt 200).toInt32 = 200 := by decide
theorem nvX1_voice : yX1_voice.cls = RX1 ∧ yX1_voice.cls ≠ "java/lang/invoke/MethodHandle" ∧ yX1_voice.cls ≠ "java/lang/invoke/VarHandle" ∧ (parseMethodDescriptor yX1_voice.desc).map (fun d => d.parameters.length) = some 1 := by decide +kernel
theorem nvX1_waveAt : yX1_waveAt.cls = RX1 ∧ yX1_waveAt.cls ≠ "java/lang/invoke/MethodHandle" ∧ yX1_waveAt.cls ≠ "java/lang/invoke/VarHandle" ∧ (parseMethodDescriptor yX1_waveAt.desc).map (fun d => d.parameters.length) = some 2 := by decide +kernel
theorem nvX2_sounding : yX2_sounding.cls = RX2 ∧ yX2_sounding.cls ≠ "java/lang/invoke/MethodHandle" ∧ yX2_sounding.cls ≠ "java/lang/invoke/VarHandle" ∧ (parseMethodDescriptor yX2_sounding.desc).map (fun d => d.parameters.length) = some 0 := by decide +kernel
set_option maxHeartbeats 4000000 in
set_option maxRecDepth 100000 in
theorem m_X1_draw (l : Launch) (hst : l.stackTraces = false) (g : gG) (ad : Nat → Nat) (e0 : Nat) (mi : Nat → Int32) (lo su : Int64) (dr : Nat → Int32) (pl v : Int32) : gXi l yX1_draw cX1_draw 4 .int 8 131 8 48 g [((ad 0), cM ad e0 mi lo su), ((ad 1), .inl (g.2.1, 32, .inl dr))] [.ref (ad 0), .int pl, .int v] (fun (r : Int32) (_ : Unit) => (k_draw pl v) = 0 ∧ r = dr pl.toNatClampNeg) (fun _ : Unit => [((ad 0), cM ad e0 mi lo su), ((ad 1), .inl (g.2.1, 32, .inl (upd dr pl.toNatClampNeg v)))]) (fun E : String => (E = eIO ∧ (k_draw pl v) = 1) ∨ (E = eIA ∧ (k_draw pl v) = 2)) := by
  intro sz
  refine g_xent (by decide) hst [(0, .ref (ad 0)), (1, .int pl), (2, .int v)] (Nat.le_of_ble_eq_true rfl) rfl ?_
  intro p e s m below meth c B hr hnm hsz hT
  have B : gB p l s m ([.ref (ad 0), .int pl, .int v] : List Value).toArray meth c RX1 cX1_draw 4 g (va_A [((ad 0), cM ad e0 mi lo su), ((ad 1), .inl (g.2.1, 32, .inl dr))] sz) := B
  have hA9 : (va_A [((ad 0), cM ad e0 mi lo su), ((ad 1), .inl (g.2.1, 32, .inl dr))] sz) = va_A [((ad 0), cM ad e0 mi lo su), ((ad 1), .inl (g.2.1, 32, .inl dr))] s.heap.size := by rw [hsz]
  subst hsz
  refine g_iload_n B 1 1 dX1_draw_0 rfl rfl ?_
  refine g_bipush (v := 32) B dX1_draw_1 kb_32 ?_
  refine g_xuS_v (As := [.int pl, .int 32]) B (m_X1_requireIndex l hst g pl 32) [] [] (lw_S q669 q670 q26 q671) nsX1_requireIndex rfl rfl rfl rfl (Nat.le_of_ble_eq_true rfl) dX1_draw_3 ⟨Nat.le_of_ble_eq_true rfl, Nat.le_of_ble_eq_true rfl⟩ ⟨Nat.le_of_ble_eq_true rfl, Nat.le_of_ble_eq_true rfl⟩ (fun E hE => ?_) (fun ur_1 hr_1 => ?_)
  · skip
    have hK9 : ¬ (ix_k pl 32) = 0 := by rw [hE.2]; decide
    exact g_xout B hT hA9 (Nat.le_of_ble_eq_true rfl) (Nat.le_of_ble_eq_true rfl) (Or.inl ⟨hE.1, (by first | exact hE.2 | (simp only [k_draw, if_neg hK9]; done) | (simp only [k_draw, if_neg hK9]; rfl) | rfl)⟩) [0, 1] rfl rfl
  have kr_1 : (ix_k pl 32) = 0 := hr_1
  refine g_sipush (v := (-1000)) B dX1_draw_6 ks_m1000 ?_
  refine g_sipush (v := 1000) B dX1_draw_9 ks_1000 ?_
  refine g_iload_n B 2 2 dX1_draw_12 rfl rfl ?_
  refine g_xuS_v (As := [.int (-1000), .int 1000, .int v]) B (m_X1_requireFrom l hst g (-1000) 1000 v) [] [] (lw_S q580 q581 q26 q582) nsX1_requireFrom rfl rfl rfl rfl (Nat.le_of_ble_eq_true rfl) dX1_draw_13 ⟨Nat.le_of_ble_eq_true rfl, Nat.le_of_ble_eq_true rfl⟩ ⟨Nat.le_of_ble_eq_true rfl, Nat.le_of_ble_eq_true rfl⟩ (fun E hE => ?_) (fun ur_2 hr_2 => ?_)
  · skip
    have hK9 : ¬ (fr_k (-1000) 1000 v) = 0 := by rw [hE.2]; decide
    exact g_xout B hT hA9 (Nat.le_of_ble_eq_true rfl) (Nat.le_of_ble_eq_true rfl) (Or.inr ⟨hE.1, (by first | exact hE.2 | (simp only [k_draw, if_pos kr_1, if_neg hK9]; done) | (simp only [k_draw, if_pos kr_1, if_neg hK9]; rfl) | rfl)⟩) [0, 1] rfl rfl
  have kr_2 : (fr_k (-1000) 1000 v) = 0 := hr_2
  refine g_aload_n B 0 0 dX1_draw_16 rfl rfl ?_
  refine g_get (C := RX1) (T := TX1) (N := 17) B 0 0 0 (.ref (ad 1)) in_X1 rfl q342 rfl (Nat.le_of_ble_eq_true rfl) (fun _ h9 => h9) rfl dX1_draw_17 ?_
  refine g_iload_n B 1 1 dX1_draw_20 rfl rfl ?_
  refine g_iald B 1 pl.toNatClampNeg rfl rfl (ix_in kr_1 (by decide)) dX1_draw_21 ?_
  refine g_topi (fun x_3 ex_3 => ?_)
  refine g_istore_n B 3 [(3, .int x_3), (0, .ref (ad 0)), (1, .int pl), (2, .int v)] dX1_draw_22 rfl (Nat.le_of_ble_eq_true rfl) rfl ?_
  refine g_aload_n B 0 1 dX1_draw_23 rfl rfl ?_
  refine g_get (C := RX1) (T := TX1) (N := 17) B 0 0 0 (.ref (ad 1)) in_X1 rfl q342 rfl (Nat.le_of_ble_eq_true rfl) (fun _ h9 => h9) rfl dX1_draw_24 ?_
  refine g_iload_n B 1 2 dX1_draw_27 rfl rfl ?_
  refine g_iload_n B 2 3 dX1_draw_28 rfl rfl ?_
  refine g_iast B 1 pl.toNatClampNeg [((ad 0), cM ad e0 mi lo su), ((ad 1), .inl (g.2.1, 32, .inl (upd dr pl.toNatClampNeg v)))] rfl rfl (ix_in kr_1 (by decide)) rfl dX1_draw_29 ?_
  refine g_iload_n B 3 0 dX1_draw_30 rfl rfl ?_
  subst ex_3
  exact g_xiret B hr dX1_draw_31 (Nat.le_of_ble_eq_true rfl) (Nat.le_of_ble_eq_true rfl) () ⟨(by first | (simp only [k_draw, if_pos kr_1, if_pos kr_2]; done) | (simp only [k_draw, if_pos kr_1, if_pos kr_2]; rfl) | rfl), (by first | (simp only [if_pos kr_1, if_pos kr_2]; done) | (simp only [if_pos kr_1, if_pos kr_2]; rfl) | rfl)⟩ [0, 1] rfl (by first | (simp only [if_pos kr_1, if_pos kr_2]; rfl) | rfl)

set_option maxHeartbeats 4000000 in
set_option maxRecDepth 100000 in
theorem m_X1_wave (l : Launch) (hst : l.stackTraces = false) (g : gG) (ad : Nat → Nat) (e0 : Nat) (mi : Nat → Int32) (lo su : Int64) (dr : Nat → Int32) (wa ph : Int32) : gXi l yX1_wave cX1_wave 3 .int 8 131 8 48 g [((ad 0), cM ad e0 mi lo su), ((ad 1), .inl (g.2.1, 32, .inl dr))] [.ref (ad 0), .int wa, .int ph] (fun (r : Int32) (_ : Unit) => (k_wave wa ph) = 0 ∧ r = pwav dr wa ph) (fun _ : Unit => [((ad 0), cM ad e0 mi lo su), ((ad 1), .inl (g.2.1, 32, .inl dr))]) (fun E : String => (E = eIO ∧ (k_wave wa ph) = 1) ∨ (E = eIA ∧ (k_wave wa ph) = 2)) := by
  intro sz
  refine g_xent (by decide) hst [(0, .ref (ad 0)), (1, .int wa), (2, .int ph)] (Nat.le_of_ble_eq_true rfl) rfl ?_
  intro p e s m below meth c B hr hnm hsz hT
  have B : gB p l s m ([.ref (ad 0), .int wa, .int ph] : List Value).toArray meth c RX1 cX1_wave 3 g (va_A [((ad 0), cM ad e0 mi lo su), ((ad 1), .inl (g.2.1, 32, .inl dr))] sz) := B
  have hA9 : (va_A [((ad 0), cM ad e0 mi lo su), ((ad 1), .inl (g.2.1, 32, .inl dr))] sz) = va_A [((ad 0), cM ad e0 mi lo su), ((ad 1), .inl (g.2.1, 32, .inl dr))] s.heap.size := by rw [hsz]
  subst hsz
  refine g_iload_n B 1 1 dX1_wave_0 rfl rfl ?_
  refine g_iconst (v := 4) B dX1_wave_1 kc_4 ?_
  refine g_xuS_v (As := [.int wa, .int 4]) B (m_X1_requireIndex l hst g wa 4) [] [] (lw_S q669 q670 q26 q671) nsX1_requireIndex rfl rfl rfl rfl (Nat.le_of_ble_eq_true rfl) dX1_wave_2 ⟨Nat.le_of_ble_eq_true rfl, Nat.le_of_ble_eq_true rfl⟩ ⟨Nat.le_of_ble_eq_true rfl, Nat.le_of_ble_eq_true rfl⟩ (fun E hE => ?_) (fun ur_1 hr_1 => ?_)
  · skip
    have hK9 : ¬ (ix_k wa 4) = 0 := by rw [hE.2]; decide
    exact g_xout B hT hA9 (Nat.le_of_ble_eq_true rfl) (Nat.le_of_ble_eq_true rfl) (Or.inl ⟨hE.1, (by first | exact hE.2 | (simp only [k_wave, if_neg hK9]; done) | (simp only [k_wave, if_neg hK9]; rfl) | rfl)⟩) [0, 1] rfl rfl
  have kr_1 : (ix_k wa 4) = 0 := hr_1
  refine g_iconst (v := 0) B dX1_wave_5 kc_0 ?_
  refine g_ldc (v := 65535) B dX1_wave_6 q747 ?_
  refine g_iload_n B 2 2 dX1_wave_8 rfl rfl ?_
  refine g_xuS_v (As := [.int 0, .int 65535, .int ph]) B (m_X1_requireFrom l hst g 0 65535 ph) [] [] (lw_S q580 q581 q26 q582) nsX1_requireFrom rfl rfl rfl rfl (Nat.le_of_ble_eq_true rfl) dX1_wave_9 ⟨Nat.le_of_ble_eq_true rfl, Nat.le_of_ble_eq_true rfl⟩ ⟨Nat.le_of_ble_eq_true rfl, Nat.le_of_ble_eq_true rfl⟩ (fun E hE => ?_) (fun ur_2 hr_2 => ?_)
  · skip
    have hK9 : ¬ (fr_k 0 65535 ph) = 0 := by rw [hE.2]; decide
    exact g_xout B hT hA9 (Nat.le_of_ble_eq_true rfl) (Nat.le_of_ble_eq_true rfl) (Or.inr ⟨hE.1, (by first | exact hE.2 | (simp only [k_wave, if_pos kr_1, if_neg hK9]; done) | (simp only [k_wave, if_pos kr_1, if_neg hK9]; rfl) | rfl)⟩) [0, 1] rfl rfl
  have kr_2 : (fr_k 0 65535 ph) = 0 := hr_2
  refine g_aload_n B 0 0 dX1_wave_12 rfl rfl ?_
  refine g_iload_n B 1 1 dX1_wave_13 rfl rfl ?_
  refine g_iload_n B 2 2 dX1_wave_14 rfl rfl ?_
  refine g_cuV_i (C := RX1) (T := TX1) (N := 17) (As := [.int wa, .int ph]) B (m_X1_waveAt l hst g ad e0 mi lo su dr wa ph (fr_in kr_2 (by decide))) 0 0 rfl rfl [0, 1] [] (lw_V q748 q496 qs7 q26 q497) nvX1_waveAt rfl rfl rfl rfl (Nat.le_of_ble_eq_true rfl) dX1_wave_15 ⟨Nat.le_of_ble_eq_true rfl, Nat.le_of_ble_eq_true rfl⟩ ⟨Nat.le_of_ble_eq_true rfl, Nat.le_of_ble_eq_true rfl⟩ (fun r_3 ur_3 hr_3 => ?_)
  have hr_3 : r_3 = (pwav dr wa ph) := hr_3
  subst hr_3
  exact g_xiret B hr dX1_wave_18 (Nat.le_of_ble_eq_true rfl) (Nat.le_of_ble_eq_true rfl) () ⟨(by first | (simp only [k_wave, if_pos kr_1, if_pos kr_2]; done) | (simp only [k_wave, if_pos kr_1, if_pos kr_2]; rfl) | rfl), (by first | (simp only [if_pos kr_1, if_pos kr_2]; done) | (simp only [if_pos kr_1, if_pos kr_2]; rfl) | rfl)⟩ [0, 1] rfl rfl

set_option maxHeartbeats 4000000 in
set_option maxRecDepth 100000 in
theorem m_X1_stride (l : Launch) (hst : l.stackTraces = false) (g : gG) (ad : Nat → Nat) (e0 : Nat) (mi : Nat → Int32) (lo su : Int64) (pi : Int32) : gXi l yX1_stride cX1_stride 2 .int 8 131 2 18 g [((ad 0), cM ad e0 mi lo su)] [.ref (ad 0), .int pi] (fun (r : Int32) (_ : Unit) => (k_stride pi) = 0 ∧ r = pstr pi) (fun _ : Unit => [((ad 0), cM ad e0 mi lo su)]) (fun E : String => E = eIA ∧ (k_stride pi) = 1) := by
  intro sz
  refine g_xent (by decide) hst [(0, .ref (ad 0)), (1, .int pi)] (Nat.le_of_ble_eq_true rfl) rfl ?_
  intro p e s m below meth c B hr hnm hsz hT
  have B : gB p l s m ([.ref (ad 0), .int pi] : List Value).toArray meth c RX1 cX1_stride 2 g (va_A [((ad 0), cM ad e0 mi lo su)] sz) := B
  have hA9 : (va_A [((ad 0), cM ad e0 mi lo su)] sz) = va_A [((ad 0), cM ad e0 mi lo su)] s.heap.size := by rw [hsz]
  subst hsz
  refine g_iconst (v := 0) B dX1_stride_0 kc_0 ?_
  refine g_bipush (v := 47) B dX1_stride_1 kb_47 ?_
  refine g_iload_n B 1 1 dX1_stride_3 rfl rfl ?_
  refine g_xuS_v (As := [.int 0, .int 47, .int pi]) B (m_X1_requireFrom l hst g 0 47 pi) [] [] (lw_S q580 q581 q26 q582) nsX1_requireFrom rfl rfl rfl rfl (Nat.le_of_ble_eq_true rfl) dX1_stride_4 ⟨Nat.le_of_ble_eq_true rfl, Nat.le_of_ble_eq_true rfl⟩ ⟨Nat.le_of_ble_eq_true rfl, Nat.le_of_ble_eq_true rfl⟩ (fun E hE => ?_) (fun ur_1 hr_1 => ?_)
  · skip
    have hK9 : ¬ (fr_k 0 47 pi) = 0 := by rw [hE.2]; decide
    exact g_xout B hT hA9 (Nat.le_of_ble_eq_true rfl) (Nat.le_of_ble_eq_true rfl) ⟨hE.1, (by first | exact hE.2 | (simp only [k_stride, if_neg hK9]; done) | (simp only [k_stride, if_neg hK9]; rfl) | rfl)⟩ [0] rfl rfl
  have kr_1 : (fr_k 0 47 pi) = 0 := hr_1
  refine g_iload_n B 1 1 dX1_stride_7 rfl rfl ?_
  refine g_cuS_i (As := [.int pi]) B (m_X1_strideOf l hst g pi (fr_in kr_1 (by decide))) [] [] (lw_S q756 q503 q26 q504) nsX1_strideOf rfl rfl rfl rfl (Nat.le_of_ble_eq_true rfl) dX1_stride_8 ⟨Nat.le_of_ble_eq_true rfl, Nat.le_of_ble_eq_true rfl⟩ ⟨Nat.le_of_ble_eq_true rfl, Nat.le_of_ble_eq_true rfl⟩ (fun r_2 ur_2 hr_2 => ?_)
  have hr_2 : r_2 = (pstr pi) := hr_2
  subst hr_2
  exact g_xiret B hr dX1_stride_11 (Nat.le_of_ble_eq_true rfl) (Nat.le_of_ble_eq_true rfl) () ⟨(by first | (simp only [k_stride, if_pos kr_1]; done) | (simp only [k_stride, if_pos kr_1]; rfl) | rfl), (by first | (simp only [if_pos kr_1]; done) | (simp only [if_pos kr_1]; rfl) | rfl)⟩ [0] rfl rfl

set_option maxHeartbeats 4000000 in
set_option maxRecDepth 100000 in
theorem m_X1_setGain (l : Launch) (hst : l.stackTraces = false) (g : gG) (ad : Nat → Nat) (e0 : Nat) (mi : Nat → Int32) (lo su : Int64) (v : Int32) : gXi l yX1_setGain cX1_setGain 3 .int 8 131 8 48 g [((ad 0), cM ad e0 mi lo su)] [.ref (ad 0), .int v] (fun (r : Int32) (_ : Unit) => (k_gain v) = 0 ∧ r = mi 2) (fun _ : Unit => [((ad 0), cM ad e0 (upd mi 2 v) lo su)]) (fun E : String => E = eIA ∧ (k_gain v) = 1) := by
  intro sz
  refine g_xent (by decide) hst [(0, .ref (ad 0)), (1, .int v)] (Nat.le_of_ble_eq_true rfl) rfl ?_
  intro p e s m below meth c B hr hnm hsz hT
  have B : gB p l s m ([.ref (ad 0), .int v] : List Value).toArray meth c RX1 cX1_setGain 3 g (va_A [((ad 0), cM ad e0 mi lo su)] sz) := B
  have hA9 : (va_A [((ad 0), cM ad e0 mi lo su)] sz) = va_A [((ad 0), cM ad e0 mi lo su)] s.heap.size := by rw [hsz]
  subst hsz
  refine g_iconst (v := 0) B dX1_setGain_0 kc_0 ?_
  refine g_sipush (v := 256) B dX1_setGain_1 ks_256 ?_
  refine g_iload_n B 1 1 dX1_setGain_4 rfl rfl ?_
  refine g_xuS_v (As := [.int 0, .int 256, .int v]) B (m_X1_requireFrom l hst g 0 256 v) [] [] (lw_S q580 q581 q26 q582) nsX1_requireFrom rfl rfl rfl rfl (Nat.le_of_ble_eq_true rfl) dX1_setGain_5 ⟨Nat.le_of_ble_eq_true rfl, Nat.le_of_ble_eq_true rfl⟩ ⟨Nat.le_of_ble_eq_true rfl, Nat.le_of_ble_eq_true rfl⟩ (fun E hE => ?_) (fun ur_1 hr_1 => ?_)
  · skip
    have hK9 : ¬ (fr_k 0 256 v) = 0 := by rw [hE.2]; decide
    exact g_xout B hT hA9 (Nat.le_of_ble_eq_true rfl) (Nat.le_of_ble_eq_true rfl) ⟨hE.1, (by first | exact hE.2 | (simp only [k_gain, if_neg hK9]; done) | (simp only [k_gain, if_neg hK9]; rfl) | rfl)⟩ [0] rfl rfl
  have kr_1 : (fr_k 0 256 v) = 0 := hr_1
  refine g_aload_n B 0 0 dX1_setGain_8 rfl rfl ?_
  refine g_get (C := RX1) (T := TX1) (N := 17) B 0 0 5 (.int (mi 2)) in_X1 rfl q351 rfl (Nat.le_of_ble_eq_true rfl) (fun _ h9 => h9) rfl dX1_setGain_9 ?_
  refine g_istore_n B 2 [(2, .int (mi 2)), (0, .ref (ad 0)), (1, .int v)] dX1_setGain_12 rfl (Nat.le_of_ble_eq_true rfl) rfl ?_
  refine g_aload_n B 0 1 dX1_setGain_13 rfl rfl ?_
  refine g_iload_n B 1 2 dX1_setGain_14 rfl rfl ?_
  refine g_put (C := RX1) (T := TX1) (N := 17) (ty := .int) (v := .int v) B 0 0 5 [((ad 0), cM ad e0 (upd mi 2 v) lo su)] in_X1 tyX1 tyX1_ok nmX1 rfl q351 rfl (Nat.le_of_ble_eq_true rfl) (fun _ h9 => h9) rfl rfl rfl rfl (Nat.le_of_ble_eq_true rfl) rfl dX1_setGain_15 ?_
  refine g_iload_n B 2 0 dX1_setGain_18 rfl rfl ?_
  exact g_xiret B hr dX1_setGain_19 (Nat.le_of_ble_eq_true rfl) (Nat.le_of_ble_eq_true rfl) () ⟨(by first | (simp only [k_gain, if_pos kr_1]; done) | (simp only [k_gain, if_pos kr_1]; rfl) | rfl), (by first | (simp only [if_pos kr_1]; done) | (simp only [if_pos kr_1]; rfl) | rfl)⟩ [0] rfl (by first | (simp only [if_pos kr_1]; rfl) | rfl)

set_option maxHeartbeats 4000000 in
set_option maxRecDepth 100000 in
theorem m_X1_setTempo (l : Launch) (hst : l.stackTraces = false) (g : gG) (ad : Nat → Nat) (e0 : Nat) (mi : Nat → Int32) (lo su : Int64) (te sw : Int32) : gXi l yX1_setTempo cX1_setTempo 4 .int 8 131 8 48 g [((ad 0), cM ad e0 mi lo su)] [.ref (ad 0), .int te, .int sw] (fun (r : Int32) (_ : Unit) => (k_tempo te sw) = 0 ∧ r = mi 0) (fun _ : Unit => [((ad 0), cM ad e0 (upd (upd mi 0 te) 1 sw) lo su)]) (fun E : String => E = eIA ∧ (k_tempo te sw) = 1) := by
  intro sz
  refine g_xent (by decide) hst [(0, .ref (ad 0)), (1, .int te), (2, .int sw)] (Nat.le_of_ble_eq_true rfl) rfl ?_
  intro p e s m below meth c B hr hnm hsz hT
  have B : gB p l s m ([.ref (ad 0), .int te, .int sw] : List Value).toArray meth c RX1 cX1_setTempo 4 g (va_A [((ad 0), cM ad e0 mi lo su)] sz) := B
  have hA9 : (va_A [((ad 0), cM ad e0 mi lo su)] sz) = va_A [((ad 0), cM ad e0 mi lo su)] s.heap.size := by rw [hsz]
  subst hsz
  refine g_iconst (v := 1) B dX1_setTempo_0 kc_1 ?_
  refine g_sipush (v := 200) B dX1_setTempo_1 ks_200 ?_
  refine g_iload_n B 1 1 dX1_setTempo_4 rfl rfl ?_
  refine g_xuS_v (As := [.int 1, .int 200, .int te]) B (m_X1_requireFrom l hst g 1 200 te) [] [] (lw_S q580 q581 q26 q582) nsX1_requireFrom rfl rfl rfl rfl (Nat.le_of_ble_eq_true rfl) dX1_setTempo_5 ⟨Nat.le_of_ble_eq_true rfl, Nat.le_of_ble_eq_true rfl⟩ ⟨Nat.le_of_ble_eq_true rfl, Nat.le_of_ble_eq_true rfl⟩ (fun E hE => ?_) (fun ur_1 hr_1 => ?_)
  · skip
    have hK9 : ¬ (fr_k 1 200 te) = 0 := by rw [hE.2]; decide
    exact g_xout B hT hA9 (Nat.le_of_ble_eq_true rfl) (Nat.le_of_ble_eq_true rfl) ⟨hE.1, (by first | exact hE.2 | (simp only [k_tempo, if_neg hK9]; done) | (simp only [k_tempo, if_neg hK9]; rfl) | rfl)⟩ [0] rfl rfl
  have kr_1 : (fr_k 1 200 te) = 0 := hr_1
  refine g_iconst (v := 0) B dX1_setTempo_8 kc_0 ?_
  refine g_iload_n B 1 1 dX1_setTempo_9 rfl rfl ?_
  refine g_iconst (v := 1) B dX1_setTempo_10 kc_1 ?_
  refine g_isub B dX1_setTempo_11 ?_
  refine g_iload_n B 2 2 dX1_setTempo_12 rfl rfl ?_
  refine g_xuS_v (As := [.int 0, .int (te - 1), .int sw]) B (m_X1_requireFrom l hst g 0 (te - 1) sw) [] [] (lw_S q580 q581 q26 q582) nsX1_requireFrom rfl rfl rfl rfl (Nat.le_of_ble_eq_true rfl) dX1_setTempo_13 ⟨Nat.le_of_ble_eq_true rfl, Nat.le_of_ble_eq_true rfl⟩ ⟨Nat.le_of_ble_eq_true rfl, Nat.le_of_ble_eq_true rfl⟩ (fun E hE => ?_) (fun ur_2 hr_2 => ?_)
  · skip
    have hK9 : ¬ (fr_k 0 (te - 1) sw) = 0 := by rw [hE.2]; decide
    exact g_xout B hT hA9 (Nat.le_of_ble_eq_true rfl) (Nat.le_of_ble_eq_true rfl) ⟨hE.1, (by first | exact hE.2 | (simp only [k_tempo, if_pos kr_1, if_neg hK9]; done) | (simp only [k_tempo, if_pos kr_1, if_neg hK9]; rfl) | rfl)⟩ [0] rfl rfl
  have kr_2 : (fr_k 0 (te - 1) sw) = 0 := hr_2
  refine g_aload_n B 0 0 dX1_setTempo_16 rfl rfl ?_
  refine g_get (C := RX1) (T := TX1) (N := 17) B 0 0 3 (.int (mi 0)) in_X1 rfl q348 rfl (Nat.le_of_ble_eq_true rfl) (fun _ h9 => h9) rfl dX1_setTempo_17 ?_
  refine g_istore_n B 3 [(3, .int (mi 0)), (0, .ref (ad 0)), (1, .int te), (2, .int sw)] dX1_setTempo_20 rfl (Nat.le_of_ble_eq_true rfl) rfl ?_
  refine g_aload_n B 0 1 dX1_setTempo_21 rfl rfl ?_
  refine g_iload_n B 1 2 dX1_setTempo_22 rfl rfl ?_
  refine g_put (C := RX1) (T := TX1) (N := 17) (ty := .int) (v := .int te) B 0 0 3 [((ad 0), cM ad e0 (upd mi 0 te) lo su)] in_X1 tyX1 tyX1_ok nmX1 rfl q348 rfl (Nat.le_of_ble_eq_true rfl) (fun _ h9 => h9) rfl rfl rfl rfl (Nat.le_of_ble_eq_true rfl) rfl dX1_setTempo_23 ?_
  refine g_aload_n B 0 1 dX1_setTempo_26 rfl rfl ?_
  refine g_iload_n B 2 3 dX1_setTempo_27 rfl rfl ?_
  refine g_put (C := RX1) (T := TX1) (N := 17) (ty := .int) (v := .int sw) B 0 0 4 [((ad 0), cM ad e0 (upd (upd mi 0 te) 1 sw) lo su)] in_X1 tyX1 tyX1_ok nmX1 rfl q350 rfl (Nat.le_of_ble_eq_true rfl) (fun _ h9 => h9) rfl rfl rfl rfl (Nat.le_of_ble_eq_true rfl) rfl dX1_setTempo_28 ?_
  refine g_iload_n B 3 0 dX1_setTempo_31 rfl rfl ?_
  exact g_xiret B hr dX1_setTempo_32 (Nat.le_of_ble_eq_true rfl) (Nat.le_of_ble_eq_true rfl) () ⟨(by first | (simp only [k_tempo, if_pos kr_1, if_pos kr_2]; done) | (simp only [k_tempo, if_pos kr_1, if_pos kr_2]; rfl) | rfl), (by first | (simp only [if_pos kr_1, if_pos kr_2]; done) | (simp only [if_pos kr_1, if_pos kr_2]; rfl) | rfl)⟩ [0] rfl (by first | (simp only [if_pos kr_1, if_pos kr_2]; rfl) | rfl)

set_option maxHeartbeats 4000000 in
set_option maxRecDepth 100000 in
theorem m_X1_setDelay (l : Launch) (hst : l.stackTraces = false) (g : gG) (ad ed : Nat → Nat) (mi : Nat → Int32) (lo su : Int64) (en rw : Nat → Int32) (n we ba : Int32) : gXi l yX1_setDelay cX1_setDelay 6 .int 8 131 8 48 g [((ad 0), cM ad (ed 0) mi lo su), ((ed 0), cE (ed 1) (ed 7) (ad 0) en), ((ed 7), .inl (g.2.1, 200, .inl rw))] [.ref (ad 0), .int n, .int we, .int ba] (fun (r : Int32) (_ : Unit) => (k_delay n we ba) = 0 ∧ r = mi 3) (fun _ : Unit => [((ad 0), cM ad (ed 0) (s_del mi n we ba) lo su), ((ed 0), cE (ed 1) (ed 7) (ad 0) (upd en 0 0)), ((ed 7), .inl (g.2.1, 200, .inl (rz 200 rw)))]) (fun E : String => E = eIA ∧ (k_delay n we ba) = 1) := by
  intro sz
  refine g_xent (by decide) hst [(0, .ref (ad 0)), (1, .int n), (2, .int we), (3, .int ba)] (Nat.le_of_ble_eq_true rfl) rfl ?_
  intro p e s m below meth c B hr hnm hsz hT
  have B : gB p l s m ([.ref (ad 0), .int n, .int we, .int ba] : List Value).toArray meth c RX1 cX1_setDelay 6 g (va_A [((ad 0), cM ad (ed 0) mi lo su), ((ed 0), cE (ed 1) (ed 7) (ad 0) en), ((ed 7), .inl (g.2.1, 200, .inl rw))] sz) := B
  have hA9 : (va_A [((ad 0), cM ad (ed 0) mi lo su), ((ed 0), cE (ed 1) (ed 7) (ad 0) en), ((ed 7), .inl (g.2.1, 200, .inl rw))] sz) = va_A [((ad 0), cM ad (ed 0) mi lo su), ((ed 0), cE (ed 1) (ed 7) (ad 0) en), ((ed 7), .inl (g.2.1, 200, .inl rw))] s.heap.size := by rw [hsz]
  subst hsz
  refine g_iconst (v := 0) B dX1_setDelay_0 kc_0 ?_
  refine g_sipush (v := 200) B dX1_setDelay_1 ks_200 ?_
  refine g_iload_n B 1 1 dX1_setDelay_4 rfl rfl ?_
  refine g_xuS_v (As := [.int 0, .int 200, .int n]) B (m_X1_requireFrom l hst g 0 200 n) [] [] (lw_S q580 q581 q26 q582) nsX1_requireFrom rfl rfl rfl rfl (Nat.le_of_ble_eq_true rfl) dX1_setDelay_5 ⟨Nat.le_of_ble_eq_true rfl, Nat.le_of_ble_eq_true rfl⟩ ⟨Nat.le_of_ble_eq_true rfl, Nat.le_of_ble_eq_true rfl⟩ (fun E hE => ?_) (fun ur_1 hr_1 => ?_)
  · skip
    have hK9 : ¬ (fr_k 0 200 n) = 0 := by rw [hE.2]; decide
    exact g_xout B hT hA9 (Nat.le_of_ble_eq_true rfl) (Nat.le_of_ble_eq_true rfl) ⟨hE.1, (by first | exact hE.2 | (simp only [k_delay, if_neg hK9]; done) | (simp only [k_delay, if_neg hK9]; rfl) | rfl)⟩ [0, 1, 2] rfl rfl
  have kr_1 : (fr_k 0 200 n) = 0 := hr_1
  refine g_iconst (v := 0) B dX1_setDelay_8 kc_0 ?_
  refine g_sipush (v := 256) B dX1_setDelay_9 ks_256 ?_
  refine g_iload_n B 2 2 dX1_setDelay_12 rfl rfl ?_
  refine g_xuS_v (As := [.int 0, .int 256, .int we]) B (m_X1_requireFrom l hst g 0 256 we) [] [] (lw_S q580 q581 q26 q582) nsX1_requireFrom rfl rfl rfl rfl (Nat.le_of_ble_eq_true rfl) dX1_setDelay_13 ⟨Nat.le_of_ble_eq_true rfl, Nat.le_of_ble_eq_true rfl⟩ ⟨Nat.le_of_ble_eq_true rfl, Nat.le_of_ble_eq_true rfl⟩ (fun E hE => ?_) (fun ur_2 hr_2 => ?_)
  · skip
    have hK9 : ¬ (fr_k 0 256 we) = 0 := by rw [hE.2]; decide
    exact g_xout B hT hA9 (Nat.le_of_ble_eq_true rfl) (Nat.le_of_ble_eq_true rfl) ⟨hE.1, (by first | exact hE.2 | (simp only [k_delay, if_pos kr_1, if_neg hK9]; done) | (simp only [k_delay, if_pos kr_1, if_neg hK9]; rfl) | rfl)⟩ [0, 1, 2] rfl rfl
  have kr_2 : (fr_k 0 256 we) = 0 := hr_2
  refine g_iconst (v := 0) B dX1_setDelay_16 kc_0 ?_
  refine g_sipush (v := 256) B dX1_setDelay_17 ks_256 ?_
  refine g_iload_n B 3 3 dX1_setDelay_20 rfl rfl ?_
  refine g_xuS_v (As := [.int 0, .int 256, .int ba]) B (m_X1_requireFrom l hst g 0 256 ba) [] [] (lw_S q580 q581 q26 q582) nsX1_requireFrom rfl rfl rfl rfl (Nat.le_of_ble_eq_true rfl) dX1_setDelay_21 ⟨Nat.le_of_ble_eq_true rfl, Nat.le_of_ble_eq_true rfl⟩ ⟨Nat.le_of_ble_eq_true rfl, Nat.le_of_ble_eq_true rfl⟩ (fun E hE => ?_) (fun ur_3 hr_3 => ?_)
  · skip
    have hK9 : ¬ (fr_k 0 256 ba) = 0 := by rw [hE.2]; decide
    exact g_xout B hT hA9 (Nat.le_of_ble_eq_true rfl) (Nat.le_of_ble_eq_true rfl) ⟨hE.1, (by first | exact hE.2 | (simp only [k_delay, if_pos kr_1, if_pos kr_2, if_neg hK9]; done) | (simp only [k_delay, if_pos kr_1, if_pos kr_2, if_neg hK9]; rfl) | rfl)⟩ [0, 1, 2] rfl rfl
  have kr_3 : (fr_k 0 256 ba) = 0 := hr_3
  refine g_aload_n B 0 0 dX1_setDelay_24 rfl rfl ?_
  refine g_get (C := RX1) (T := TX1) (N := 17) B 0 0 6 (.int (mi 3)) in_X1 rfl q354 rfl (Nat.le_of_ble_eq_true rfl) (fun _ h9 => h9) rfl dX1_setDelay_25 ?_
  refine g_istore B [(4, .int (mi 3)), (0, .ref (ad 0)), (1, .int n), (2, .int we), (3, .int ba)] dX1_setDelay_28 (Nat.le_of_ble_eq_true rfl) rfl ?_
  refine g_aload_n B 0 1 dX1_setDelay_30 rfl rfl ?_
  refine g_iload_n B 1 2 dX1_setDelay_31 rfl rfl ?_
  refine g_put (C := RX1) (T := TX1) (N := 17) (ty := .int) (v := .int n) B 0 0 6 [((ad 0), cM ad (ed 0) (upd mi 3 n) lo su), ((ed 0), cE (ed 1) (ed 7) (ad 0) en), ((ed 7), .inl (g.2.1, 200, .inl rw))] in_X1 tyX1 tyX1_ok nmX1 rfl q354 rfl (Nat.le_of_ble_eq_true rfl) (fun _ h9 => h9) rfl rfl rfl rfl (Nat.le_of_ble_eq_true rfl) rfl dX1_setDelay_32 ?_
  refine g_aload_n B 0 1 dX1_setDelay_35 rfl rfl ?_
  refine g_iload_n B 2 3 dX1_setDelay_36 rfl rfl ?_
  refine g_put (C := RX1) (T := TX1) (N := 17) (ty := .int) (v := .int we) B 0 0 7 [((ad 0), cM ad (ed 0) (upd (upd mi 3 n) 4 we) lo su), ((ed 0), cE (ed 1) (ed 7) (ad 0) en), ((ed 7), .inl (g.2.1, 200, .inl rw))] in_X1 tyX1 tyX1_ok nmX1 rfl q356 rfl (Nat.le_of_ble_eq_true rfl) (fun _ h9 => h9) rfl rfl rfl rfl (Nat.le_of_ble_eq_true rfl) rfl dX1_setDelay_37 ?_
  refine g_aload_n B 0 1 dX1_setDelay_40 rfl rfl ?_
  refine g_iload_n B 3 4 dX1_setDelay_41 rfl rfl ?_
  refine g_put (C := RX1) (T := TX1) (N := 17) (ty := .int) (v := .int ba) B 0 0 8 [((ad 0), cM ad (ed 0) (upd (upd (upd mi 3 n) 4 we) 5 ba) lo su), ((ed 0), cE (ed 1) (ed 7) (ad 0) en), ((ed 7), .inl (g.2.1, 200, .inl rw))] in_X1 tyX1 tyX1_ok nmX1 rfl q358 rfl (Nat.le_of_ble_eq_true rfl) (fun _ h9 => h9) rfl rfl rfl rfl (Nat.le_of_ble_eq_true rfl) rfl dX1_setDelay_42 ?_
  refine g_iconst (v := 0) B dX1_setDelay_45 kc_0 ?_
  refine g_istore B [(5, .int 0), (4, .int (mi 3)), (0, .ref (ad 0)), (1, .int n), (2, .int we), (3, .int ba)] dX1_setDelay_46 (Nat.le_of_ble_eq_true rfl) rfl ?_
  refine g_lvq (lv' := [(5, .int (nI 0)), (4, .int (mi 3)), (0, .ref (ad 0)), (1, .int n), (2, .int we), (3, .int ba)]) (by first | rfl | (rw [nI_0]; rfl) | rw [nI_0]) ?_
  refine g_eqw (ws' := [((ad 0), cM ad (ed 0) (upd (upd (upd mi 3 n) 4 we) 5 ba) lo su), ((ed 0), cE (ed 1) (ed 7) (ad 0) en), ((ed 7), .inl (g.2.1, 200, .inl (rz 0 rw)))]) (by rw [rz_0]) ?_
  refine g_loop (P := fun t_4 => gW p l e (gRm 8 131 8 48) s m ([.ref (ad 0), .int n, .int we, .int ba] : List Value).toArray below meth c (vx_MQ below (va_Qi (fun (r : Int32) (_ : Unit) => (k_delay n we ba) = 0 ∧ r = mi 3) (fun u t => gE g (va_A [((ad 0), cM ad (ed 0) mi lo su), ((ed 0), cE (ed 1) (ed 7) (ad 0) en), ((ed 7), .inl (g.2.1, 200, .inl rw))] s.heap.size) ((fun _ : Unit => [((ad 0), cM ad (ed 0) (s_del mi n we ba) lo su), ((ed 0), cE (ed 1) (ed 7) (ad 0) (upd en 0 0)), ((ed 7), .inl (g.2.1, 200, .inl (rz 200 rw)))]) u) t) (va_A [((ad 0), cM ad (ed 0) mi lo su), ((ed 0), cE (ed 1) (ed 7) (ad 0) en), ((ed 7), .inl (g.2.1, 200, .inl rw))] s.heap.size)) (gXC g [((ad 0), cM ad (ed 0) mi lo su), ((ed 0), cE (ed 1) (ed 7) (ad 0) en), ((ed 7), .inl (g.2.1, 200, .inl rw))] s.heap.size (fun E : String => E = eIA ∧ (k_delay n we ba) = 1)) ([.ref (ad 0), .int n, .int we, .int ba] : List Value).toArray s 8 48 (va_A [((ad 0), cM ad (ed 0) mi lo su), ((ed 0), cE (ed 1) (ed 7) (ad 0) en), ((ed 7), .inl (g.2.1, 200, .inl rw))] s.heap.size)) 6 g (va_A [((ad 0), cM ad (ed 0) mi lo su), ((ed 0), cE (ed 1) (ed 7) (ad 0) en), ((ed 7), .inl (g.2.1, 200, .inl rw))] s.heap.size) [((ad 0), cM ad (ed 0) (upd (upd (upd mi 3 n) 4 we) 5 ba) lo su), ((ed 0), cE (ed 1) (ed 7) (ad 0) en), ((ed 7), .inl (g.2.1, 200, .inl (rz t_4 rw)))] [(5, .int (nI t_4)), (4, .int (mi 3)), (0, .ref (ad 0)), (1, .int n), (2, .int we), (3, .int ba)] [] 48 3 18) 200 (fun t_4 ht_4 iht_4  => ?_) ?_
  · skip
    refine g_iload B 0 dX1_setDelay_48 rfl ?_
    refine g_sipush (v := 200) B dX1_setDelay_50 ks_200 ?_
    refine g_icmp_ge_F (tgt := 73) B dX1_setDelay_53 (by decide) (nI_ge ht_4 (by decide) : ¬ nI 200 ≤ nI t_4) ?_
    refine g_aload_n B 0 2 dX1_setDelay_56 rfl rfl ?_
    refine g_get (C := RX1) (T := TX1) (N := 17) B 0 0 9 (.ref (ed 0)) in_X1 rfl q359 rfl (Nat.le_of_ble_eq_true rfl) (fun _ h9 => h9) rfl dX1_setDelay_57 ?_
    refine g_getN (C := RX2) (T := TX2) (N := 12) B 1 1 1 (.ref (ed 7)) in_X2 rfl q95 rfl (Nat.le_of_ble_eq_true rfl) (fun _ h9 => h9) rfl dX1_setDelay_60 ?_
    refine g_iload B 0 dX1_setDelay_63 rfl ?_
    refine g_iconst (v := 0) B dX1_setDelay_65 kc_0 ?_
    refine g_iast B 2 t_4 [((ad 0), cM ad (ed 0) (upd (upd (upd mi 3 n) 4 we) 5 ba) lo su), ((ed 0), cE (ed 1) (ed 7) (ad 0) en), ((ed 7), .inl (g.2.1, 200, .inl (upd (rz t_4 rw) t_4 0)))] rfl (nI_clamp (by omega)) (vp_in_nI (by omega) (by omega)) rfl dX1_setDelay_66 ?_
    refine g_iinc B 0 (nI (t_4 + 1)) [(5, .int (nI (t_4 + 1))), (4, .int (mi 3)), (0, .ref (ad 0)), (1, .int n), (2, .int we), (3, .int ba)] dX1_setDelay_67 rfl (by rw [kc_1]; exact nI_1 t_4) (Nat.le_of_ble_eq_true rfl) rfl ?_
    refine g_goto (tgt := 48) B dX1_setDelay_70 (by decide) ?_
    refine g_eqw (ws' := [((ad 0), cM ad (ed 0) (upd (upd (upd mi 3 n) 4 we) 5 ba) lo su), ((ed 0), cE (ed 1) (ed 7) (ad 0) en), ((ed 7), .inl (g.2.1, 200, .inl (rz (t_4 + 1) rw)))]) (by rw [rz_s]) ?_
    exact iht_4
  · skip
    refine g_lvq (lv' := [(5, .int 200), (4, .int (mi 3)), (0, .ref (ad 0)), (1, .int n), (2, .int we), (3, .int ba)]) rfl ?_
    refine g_iload B 0 dX1_setDelay_48 rfl ?_
    refine g_sipush (v := 200) B dX1_setDelay_50 ks_200 ?_
    refine g_icmp_ge_T (tgt := 73) B dX1_setDelay_53 (by decide) (by decide) ?_
    refine g_aload_n B 0 2 dX1_setDelay_73 rfl rfl ?_
    refine g_get (C := RX1) (T := TX1) (N := 17) B 0 0 9 (.ref (ed 0)) in_X1 rfl q359 rfl (Nat.le_of_ble_eq_true rfl) (fun _ h9 => h9) rfl dX1_setDelay_74 ?_
    refine g_iconst (v := 0) B dX1_setDelay_77 kc_0 ?_
    refine g_putN (C := RX2) (T := TX2) (N := 12) (ty := .int) (v := .int 0) B 1 1 2 [((ad 0), cM ad (ed 0) (upd (upd (upd mi 3 n) 4 we) 5 ba) lo su), ((ed 0), cE (ed 1) (ed 7) (ad 0) (upd en 0 0)), ((ed 7), .inl (g.2.1, 200, .inl (rz 200 rw)))] in_X2 tyX2 tyX2_ok nmX2 rfl q97 rfl (Nat.le_of_ble_eq_true rfl) (fun _ h9 => h9) rfl rfl rfl rfl (Nat.le_of_ble_eq_true rfl) rfl dX1_setDelay_78 ?_
    refine g_iload B 1 dX1_setDelay_81 rfl ?_
    exact g_xiret B hr dX1_setDelay_83 (Nat.le_of_ble_eq_true rfl) (Nat.le_of_ble_eq_true rfl) () ⟨(by first | (simp only [k_delay, if_pos kr_1, if_pos kr_2, if_pos kr_3]; done) | (simp only [k_delay, if_pos kr_1, if_pos kr_2, if_pos kr_3]; rfl) | rfl), (by first | (simp only [if_pos kr_1, if_pos kr_2, if_pos kr_3]; done) | (simp only [if_pos kr_1, if_pos kr_2, if_pos kr_3]; rfl) | rfl)⟩ [0, 1, 2] rfl (by first | (simp only [if_pos kr_1, if_pos kr_2, if_pos kr_3]; rfl) | rfl)

set_option maxHeartbeats 4000000 in
set_option maxRecDepth 100000 in
theorem m_X1_begin (l : Launch) (hst : l.stackTraces = false) (g : gG) (ad ed : Nat → Nat) (mi : Nat → Int32) (lo su : Int64) (en : Nat → Int32) (ig vf : Nat → Nat → Int32) (i pi fo : Int32) : gXi l yX1_begin cX1_begin 4 .int 8 131 8 48 g [((ad 0), cM ad (ed 0) mi lo su), ((ad 2), cA (ad 3) al4), ((ad 3), .inl (g.2.2.1, 10, .inr (.inr (.inr (.inr (iq ad)))))), ((ad 4), cI (ig 0)), ((ad 5), cI (ig 1)), ((ad 6), cI (ig 2)), ((ad 7), cI (ig 3)), ((ed 0), cE (ed 1) (ed 7) (ad 0) en), ((ed 1), cA (ed 2) al4), ((ed 2), .inl (g.2.2.1, 10, .inr (.inr (.inr (.inr (vq ed)))))), ((ed 3), cV (vf 0)), ((ed 4), cV (vf 1)), ((ed 5), cV (vf 2)), ((ed 6), cV (vf 3))] [.ref (ad 0), .int i, .int pi, .int fo] (fun (r : Int32) (_ : Unit) => (k_begin i pi fo) = 0 ∧ r = nI (v_nx vf)) (fun _ : Unit => [((ad 0), cM ad (ed 0) mi lo su), ((ad 2), cA (ad 3) al4), ((ad 3), .inl (g.2.2.1, 10, .inr (.inr (.inr (.inr (iq ad)))))), ((ad 4), cI (ig 0)), ((ad 5), cI (ig 1)), ((ad 6), cI (ig 2)), ((ad 7), cI (ig 3)), ((ed 0), cE (ed 1) (ed 7) (ad 0) (e_be vf en)), ((ed 1), cA (ed 2) al4), ((ed 2), .inl (g.2.2.1, 10, .inr (.inr (.inr (.inr (vq ed)))))), ((ed 3), cV ((e_bv vf en i pi fo (-1)) 0)), ((ed 4), cV ((e_bv vf en i pi fo (-1)) 1)), ((ed 5), cV ((e_bv vf en i pi fo (-1)) 2)), ((ed 6), cV ((e_bv vf en i pi fo (-1)) 3))]) (fun E : String => (E = eIO ∧ (k_begin i pi fo) = 1) ∨ (E = eIA ∧ (k_begin i pi fo) = 2)) := by
  intro sz
  refine g_xent (by decide) hst [(0, .ref (ad 0)), (1, .int i), (2, .int pi), (3, .int fo)] (Nat.le_of_ble_eq_true rfl) rfl ?_
  intro p e s m below meth c B hr hnm hsz hT
  have B : gB p l s m ([.ref (ad 0), .int i, .int pi, .int fo] : List Value).toArray meth c RX1 cX1_begin 4 g (va_A [((ad 0), cM ad (ed 0) mi lo su), ((ad 2), cA (ad 3) al4), ((ad 3), .inl (g.2.2.1, 10, .inr (.inr (.inr (.inr (iq ad)))))), ((ad 4), cI (ig 0)), ((ad 5), cI (ig 1)), ((ad 6), cI (ig 2)), ((ad 7), cI (ig 3)), ((ed 0), cE (ed 1) (ed 7) (ad 0) en), ((ed 1), cA (ed 2) al4), ((ed 2), .inl (g.2.2.1, 10, .inr (.inr (.inr (.inr (vq ed)))))), ((ed 3), cV (vf 0)), ((ed 4), cV (vf 1)), ((ed 5), cV (vf 2)), ((ed 6), cV (vf 3))] sz) := B
  have hA9 : (va_A [((ad 0), cM ad (ed 0) mi lo su), ((ad 2), cA (ad 3) al4), ((ad 3), .inl (g.2.2.1, 10, .inr (.inr (.inr (.inr (iq ad)))))), ((ad 4), cI (ig 0)), ((ad 5), cI (ig 1)), ((ad 6), cI (ig 2)), ((ad 7), cI (ig 3)), ((ed 0), cE (ed 1) (ed 7) (ad 0) en), ((ed 1), cA (ed 2) al4), ((ed 2), .inl (g.2.2.1, 10, .inr (.inr (.inr (.inr (vq ed)))))), ((ed 3), cV (vf 0)), ((ed 4), cV (vf 1)), ((ed 5), cV (vf 2)), ((ed 6), cV (vf 3))] sz) = va_A [((ad 0), cM ad (ed 0) mi lo su), ((ad 2), cA (ad 3) al4), ((ad 3), .inl (g.2.2.1, 10, .inr (.inr (.inr (.inr (iq ad)))))), ((ad 4), cI (ig 0)), ((ad 5), cI (ig 1)), ((ad 6), cI (ig 2)), ((ad 7), cI (ig 3)), ((ed 0), cE (ed 1) (ed 7) (ad 0) en), ((ed 1), cA (ed 2) al4), ((ed 2), .inl (g.2.2.1, 10, .inr (.inr (.inr (.inr (vq ed)))))), ((ed 3), cV (vf 0)), ((ed 4), cV (vf 1)), ((ed 5), cV (vf 2)), ((ed 6), cV (vf 3))] s.heap.size := by rw [hsz]
  subst hsz
  by_cases b_1 : ix_k i 4 = 0
  · skip
    obtain ⟨q_2, hq_2, e_3⟩ := ix_nat (N := 4) b_1 (by decide) (by decide)
    rcases (show q_2 = 0 ∨ q_2 = 1 ∨ q_2 = 2 ∨ q_2 = 3 by omega) with rfl | rfl | rfl | rfl
    · skip
      replace e_3 : i = 0 := e_3
      have te_3 : i.toNatClampNeg = 0 := by rw [e_3]; decide
      refine g_lvq (lv' := [(0, .ref (ad 0)), (1, .int 0), (2, .int pi), (3, .int fo)]) (by rw [e_3]) ?_
      refine g_aload_n B 0 0 dX1_begin_0 rfl rfl ?_
      refine g_iload_n B 1 1 dX1_begin_1 rfl rfl ?_
      refine g_cuV_q (C := RX1) (T := TX1) (N := 17) (As := [.int 0]) B (m_X1_instrument l hst g ad (ed 0) mi lo su 0 0 (by decide) (by decide) (ig 0)) 0 0 rfl rfl [0, 1, 2, 3] [] (lw_V q764 q766 qs14 q26 q767) nvX1_instrument rfl rfl rfl rfl (Nat.le_of_ble_eq_true rfl) dX1_begin_2 ⟨Nat.le_of_ble_eq_true rfl, Nat.le_of_ble_eq_true rfl⟩ ⟨Nat.le_of_ble_eq_true rfl, Nat.le_of_ble_eq_true rfl⟩ (fun r_4 ur_4 hr_4 => ?_)
      obtain rfl : some (ad 4) = r_4 := (hr_4).symm
      refine g_eqs (st' := [.ref (ad 4)]) rfl ?_
      refine g_pop B dX1_begin_5 rfl ?_
      refine g_iconst (v := 0) B dX1_begin_6 kc_0 ?_
      refine g_bipush (v := 47) B dX1_begin_7 kb_47 ?_
      refine g_iload_n B 2 2 dX1_begin_9 rfl rfl ?_
      refine g_xuS_v (As := [.int 0, .int 47, .int pi]) B (m_X1_requireFrom l hst g 0 47 pi) [] [] (lw_S q580 q581 q26 q582) nsX1_requireFrom rfl rfl rfl rfl (Nat.le_of_ble_eq_true rfl) dX1_begin_10 ⟨Nat.le_of_ble_eq_true rfl, Nat.le_of_ble_eq_true rfl⟩ ⟨Nat.le_of_ble_eq_true rfl, Nat.le_of_ble_eq_true rfl⟩ (fun E hE => ?_) (fun ur_5 hr_5 => ?_)
      · skip
        have hK9 : ¬ (fr_k 0 47 pi) = 0 := by rw [hE.2]; decide
        exact g_xout B hT hA9 (Nat.le_of_ble_eq_true rfl) (Nat.le_of_ble_eq_true rfl) (Or.inr ⟨hE.1, (by first | exact hE.2 | (simp only [k_begin, if_pos b_1, te_3, if_neg hK9]; done) | (simp only [k_begin, if_pos b_1, te_3, if_neg hK9]; rfl) | rfl)⟩) [0, 1, 2, 3, 4, 5, 6, 7, 8, 9, 10, 11, 12, 13] rfl rfl
      have kr_5 : (fr_k 0 47 pi) = 0 := hr_5
      refine g_iconst (v := 1) B dX1_begin_13 kc_1 ?_
      refine g_bipush (v := 127) B dX1_begin_14 kb_127 ?_
      refine g_iload_n B 3 3 dX1_begin_16 rfl rfl ?_
      refine g_xuS_v (As := [.int 1, .int 127, .int fo]) B (m_X1_requireFrom l hst g 1 127 fo) [] [] (lw_S q580 q581 q26 q582) nsX1_requireFrom rfl rfl rfl rfl (Nat.le_of_ble_eq_true rfl) dX1_begin_17 ⟨Nat.le_of_ble_eq_true rfl, Nat.le_of_ble_eq_true rfl⟩ ⟨Nat.le_of_ble_eq_true rfl, Nat.le_of_ble_eq_true rfl⟩ (fun E hE => ?_) (fun ur_6 hr_6 => ?_)
      · skip
        have hK9 : ¬ (fr_k 1 127 fo) = 0 := by rw [hE.2]; decide
        exact g_xout B hT hA9 (Nat.le_of_ble_eq_true rfl) (Nat.le_of_ble_eq_true rfl) (Or.inr ⟨hE.1, (by first | exact hE.2 | (simp only [k_begin, if_pos b_1, te_3, if_pos kr_5, if_neg hK9]; done) | (simp only [k_begin, if_pos b_1, te_3, if_pos kr_5, if_neg hK9]; rfl) | rfl)⟩) [0, 1, 2, 3, 4, 5, 6, 7, 8, 9, 10, 11, 12, 13] rfl rfl
      have kr_6 : (fr_k 1 127 fo) = 0 := hr_6
      refine g_aload_n B 0 0 dX1_begin_20 rfl rfl ?_
      refine g_get (C := RX1) (T := TX1) (N := 17) B 0 0 9 (.ref (ed 0)) in_X1 rfl q359 rfl (Nat.le_of_ble_eq_true rfl) (fun _ h9 => h9) rfl dX1_begin_21 ?_
      refine g_iload_n B 1 1 dX1_begin_24 rfl rfl ?_
      refine g_iload_n B 2 2 dX1_begin_25 rfl rfl ?_
      refine g_iload_n B 3 3 dX1_begin_26 rfl rfl ?_
      refine g_iconst (v := (-1)) B dX1_begin_27 kc_m1 ?_
      refine g_cV_i (C := RX2) (T := TX2) (N := 12) (As := [.int 0, .int pi, .int fo, .int (-1)]) B (m_X2_begin l hst g ad ed en vf 0 pi fo (-1)) 1 0 rfl rfl [7, 8, 9, 10, 11, 12, 13] [] (lw_V q810 q464 q465 q30 q466) nvX2_begin rfl rfl (fun _ => rfl) rfl rfl (Nat.le_of_ble_eq_true rfl) dX1_begin_28 ⟨Nat.le_of_ble_eq_true rfl, Nat.le_of_ble_eq_true rfl⟩ ⟨Nat.le_of_ble_eq_true rfl, Nat.le_of_ble_eq_true rfl⟩ (fun r_7 ur_7 hr_7 => ?_)
      refine g_eqw (ws' := [((ad 0), cM ad (ed 0) mi lo su), ((ad 2), cA (ad 3) al4), ((ad 3), .inl (g.2.2.1, 10, .inr (.inr (.inr (.inr (iq ad)))))), ((ad 4), cI (ig 0)), ((ad 5), cI (ig 1)), ((ad 6), cI (ig 2)), ((ad 7), cI (ig 3)), ((ed 0), cE (ed 1) (ed 7) (ad 0) (e_be vf en)), ((ed 1), cA (ed 2) al4), ((ed 2), .inl (g.2.2.1, 10, .inr (.inr (.inr (.inr (vq ed)))))), ((ed 3), cV ((e_bv vf en 0 pi fo (-1)) 0)), ((ed 4), cV ((e_bv vf en 0 pi fo (-1)) 1)), ((ed 5), cV ((e_bv vf en 0 pi fo (-1)) 2)), ((ed 6), cV ((e_bv vf en 0 pi fo (-1)) 3))]) rfl ?_
      have hr_7 : r_7 = (nI (v_nx vf)) := hr_7
      subst hr_7
      exact g_xiret B hr dX1_begin_31 (Nat.le_of_ble_eq_true rfl) (Nat.le_of_ble_eq_true rfl) () ⟨(by first | (simp only [k_begin, if_pos b_1, te_3, if_pos kr_5, if_pos kr_6]; done) | (simp only [k_begin, if_pos b_1, te_3, if_pos kr_5, if_pos kr_6]; rfl) | rfl), (by first | (simp only [if_pos b_1, te_3, if_pos kr_5, if_pos kr_6]; done) | (simp only [if_pos b_1, te_3, if_pos kr_5, if_pos kr_6]; rfl) | rfl)⟩ [0, 1, 2, 3, 4, 5, 6, 7, 8, 9, 10, 11, 12, 13] rfl (by first | (simp only [if_pos b_1, te_3, if_pos kr_5, if_pos kr_6]; rfl) | rfl | (rw [e_3]; rfl))
    · skip
      replace e_3 : i = 1 := e_3
      have te_3 : i.toNatClampNeg = 1 := by rw [e_3]; decide
      refine g_lvq (lv' := [(0, .ref (ad 0)), (1, .int 1), (2, .int pi), (3, .int fo)]) (by rw [e_3]) ?_
      refine g_aload_n B 0 0 dX1_begin_0 rfl rfl ?_
      refine g_iload_n B 1 1 dX1_begin_1 rfl rfl ?_
      refine g_cuV_q (C := RX1) (T := TX1) (N := 17) (As := [.int 1]) B (m_X1_instrument l hst g ad (ed 0) mi lo su 1 1 (by decide) (by decide) (ig 1)) 0 0 rfl rfl [0, 1, 2, 4] [] (lw_V q764 q766 qs14 q26 q767) nvX1_instrument rfl rfl rfl rfl (Nat.le_of_ble_eq_true rfl) dX1_begin_2 ⟨Nat.le_of_ble_eq_true rfl, Nat.le_of_ble_eq_true rfl⟩ ⟨Nat.le_of_ble_eq_true rfl, Nat.le_of_ble_eq_true rfl⟩ (fun r_8 ur_8 hr_8 => ?_)
      obtain rfl : some (ad 5) = r_8 := (hr_8).symm
      refine g_eqs (st' := [.ref (ad 5)]) rfl ?_
      refine g_pop B dX1_begin_5 rfl ?_
      refine g_iconst (v := 0) B dX1_begin_6 kc_0 ?_
      refine g_bipush (v := 47) B dX1_begin_7 kb_47 ?_
      refine g_iload_n B 2 2 dX1_begin_9 rfl rfl ?_
      refine g_xuS_v (As := [.int 0, .int 47, .int pi]) B (m_X1_requireFrom l hst g 0 47 pi) [] [] (lw_S q580 q581 q26 q582) nsX1_requireFrom rfl rfl rfl rfl (Nat.le_of_ble_eq_true rfl) dX1_begin_10 ⟨Nat.le_of_ble_eq_true rfl, Nat.le_of_ble_eq_true rfl⟩ ⟨Nat.le_of_ble_eq_true rfl, Nat.le_of_ble_eq_true rfl⟩ (fun E hE => ?_) (fun ur_9 hr_9 => ?_)
      · skip
        have hK9 : ¬ (fr_k 0 47 pi) = 0 := by rw [hE.2]; decide
        exact g_xout B hT hA9 (Nat.le_of_ble_eq_true rfl) (Nat.le_of_ble_eq_true rfl) (Or.inr ⟨hE.1, (by first | exact hE.2 | (simp only [k_begin, if_pos b_1, te_3, if_neg hK9]; done) | (simp only [k_begin, if_pos b_1, te_3, if_neg hK9]; rfl) | rfl)⟩) [0, 1, 2, 3, 4, 5, 6, 7, 8, 9, 10, 11, 12, 13] rfl rfl
      have kr_9 : (fr_k 0 47 pi) = 0 := hr_9
      refine g_iconst (v := 1) B dX1_begin_13 kc_1 ?_
      refine g_bipush (v := 127) B dX1_begin_14 kb_127 ?_
      refine g_iload_n B 3 3 dX1_begin_16 rfl rfl ?_
      refine g_xuS_v (As := [.int 1, .int 127, .int fo]) B (m_X1_requireFrom l hst g 1 127 fo) [] [] (lw_S q580 q581 q26 q582) nsX1_requireFrom rfl rfl rfl rfl (Nat.le_of_ble_eq_true rfl) dX1_begin_17 ⟨Nat.le_of_ble_eq_true rfl, Nat.le_of_ble_eq_true rfl⟩ ⟨Nat.le_of_ble_eq_true rfl, Nat.le_of_ble_eq_true rfl⟩ (fun E hE => ?_) (fun ur_10 hr_10 => ?_)
      · skip
        have hK9 : ¬ (fr_k 1 127 fo) = 0 := by rw [hE.2]; decide
        exact g_xout B hT hA9 (Nat.le_of_ble_eq_true rfl) (Nat.le_of_ble_eq_true rfl) (Or.inr ⟨hE.1, (by first | exact hE.2 | (simp only [k_begin, if_pos b_1, te_3, if_pos kr_9, if_neg hK9]; done) | (simp only [k_begin, if_pos b_1, te_3, if_pos kr_9, if_neg hK9]; rfl) | rfl)⟩) [0, 1, 2, 3, 4, 5, 6, 7, 8, 9, 10, 11, 12, 13] rfl rfl
      have kr_10 : (fr_k 1 127 fo) = 0 := hr_10
      refine g_aload_n B 0 0 dX1_begin_20 rfl rfl ?_
      refine g_get (C := RX1) (T := TX1) (N := 17) B 0 0 9 (.ref (ed 0)) in_X1 rfl q359 rfl (Nat.le_of_ble_eq_true rfl) (fun _ h9 => h9) rfl dX1_begin_21 ?_
      refine g_iload_n B 1 1 dX1_begin_24 rfl rfl ?_
      refine g_iload_n B 2 2 dX1_begin_25 rfl rfl ?_
      refine g_iload_n B 3 3 dX1_begin_26 rfl rfl ?_
      refine g_iconst (v := (-1)) B dX1_begin_27 kc_m1 ?_
      refine g_cV_i (C := RX2) (T := TX2) (N := 12) (As := [.int 1, .int pi, .int fo, .int (-1)]) B (m_X2_begin l hst g ad ed en vf 1 pi fo (-1)) 1 0 rfl rfl [7, 8, 9, 10, 11, 12, 13] [] (lw_V q810 q464 q465 q30 q466) nvX2_begin rfl rfl (fun _ => rfl) rfl rfl (Nat.le_of_ble_eq_true rfl) dX1_begin_28 ⟨Nat.le_of_ble_eq_true rfl, Nat.le_of_ble_eq_true rfl⟩ ⟨Nat.le_of_ble_eq_true rfl, Nat.le_of_ble_eq_true rfl⟩ (fun r_11 ur_11 hr_11 => ?_)
      refine g_eqw (ws' := [((ad 0), cM ad (ed 0) mi lo su), ((ad 2), cA (ad 3) al4), ((ad 3), .inl (g.2.2.1, 10, .inr (.inr (.inr (.inr (iq ad)))))), ((ad 4), cI (ig 0)), ((ad 5), cI (ig 1)), ((ad 6), cI (ig 2)), ((ad 7), cI (ig 3)), ((ed 0), cE (ed 1) (ed 7) (ad 0) (e_be vf en)), ((ed 1), cA (ed 2) al4), ((ed 2), .inl (g.2.2.1, 10, .inr (.inr (.inr (.inr (vq ed)))))), ((ed 3), cV ((e_bv vf en 1 pi fo (-1)) 0)), ((ed 4), cV ((e_bv vf en 1 pi fo (-1)) 1)), ((ed 5), cV ((e_bv vf en 1 pi fo (-1)) 2)), ((ed 6), cV ((e_bv vf en 1 pi fo (-1)) 3))]) rfl ?_
      have hr_11 : r_11 = (nI (v_nx vf)) := hr_11
      subst hr_11
      exact g_xiret B hr dX1_begin_31 (Nat.le_of_ble_eq_true rfl) (Nat.le_of_ble_eq_true rfl) () ⟨(by first | (simp only [k_begin, if_pos b_1, te_3, if_pos kr_9, if_pos kr_10]; done) | (simp only [k_begin, if_pos b_1, te_3, if_pos kr_9, if_pos kr_10]; rfl) | rfl), (by first | (simp only [if_pos b_1, te_3, if_pos kr_9, if_pos kr_10]; done) | (simp only [if_pos b_1, te_3, if_pos kr_9, if_pos kr_10]; rfl) | rfl)⟩ [0, 1, 2, 3, 4, 5, 6, 7, 8, 9, 10, 11, 12, 13] rfl (by first | (simp only [if_pos b_1, te_3, if_pos kr_9, if_pos kr_10]; rfl) | rfl | (rw [e_3]; rfl))
    · skip
      replace e_3 : i = 2 := e_3
      have te_3 : i.toNatClampNeg = 2 := by rw [e_3]; decide
      refine g_lvq (lv' := [(0, .ref (ad 0)), (1, .int 2), (2, .int pi), (3, .int fo)]) (by rw [e_3]) ?_
      refine g_aload_n B 0 0 dX1_begin_0 rfl rfl ?_
      refine g_iload_n B 1 1 dX1_begin_1 rfl rfl ?_
      refine g_cuV_q (C := RX1) (T := TX1) (N := 17) (As := [.int 2]) B (m_X1_instrument l hst g ad (ed 0) mi lo su 2 2 (by decide) (by decide) (ig 2)) 0 0 rfl rfl [0, 1, 2, 5] [] (lw_V q764 q766 qs14 q26 q767) nvX1_instrument rfl rfl rfl rfl (Nat.le_of_ble_eq_true rfl) dX1_begin_2 ⟨Nat.le_of_ble_eq_true rfl, Nat.le_of_ble_eq_true rfl⟩ ⟨Nat.le_of_ble_eq_true rfl, Nat.le_of_ble_eq_true rfl⟩ (fun r_12 ur_12 hr_12 => ?_)
      obtain rfl : some (ad 6) = r_12 := (hr_12).symm
      refine g_eqs (st' := [.ref (ad 6)]) rfl ?_
      refine g_pop B dX1_begin_5 rfl ?_
      refine g_iconst (v := 0) B dX1_begin_6 kc_0 ?_
      refine g_bipush (v := 47) B dX1_begin_7 kb_47 ?_
      refine g_iload_n B 2 2 dX1_begin_9 rfl rfl ?_
      refine g_xuS_v (As := [.int 0, .int 47, .int pi]) B (m_X1_requireFrom l hst g 0 47 pi) [] [] (lw_S q580 q581 q26 q582) nsX1_requireFrom rfl rfl rfl rfl (Nat.le_of_ble_eq_true rfl) dX1_begin_10 ⟨Nat.le_of_ble_eq_true rfl, Nat.le_of_ble_eq_true rfl⟩ ⟨Nat.le_of_ble_eq_true rfl, Nat.le_of_ble_eq_true rfl⟩ (fun E hE => ?_) (fun ur_13 hr_13 => ?_)
      · skip
        have hK9 : ¬ (fr_k 0 47 pi) = 0 := by rw [hE.2]; decide
        exact g_xout B hT hA9 (Nat.le_of_ble_eq_true rfl) (Nat.le_of_ble_eq_true rfl) (Or.inr ⟨hE.1, (by first | exact hE.2 | (simp only [k_begin, if_pos b_1, te_3, if_neg hK9]; done) | (simp only [k_begin, if_pos b_1, te_3, if_neg hK9]; rfl) | rfl)⟩) [0, 1, 2, 3, 4, 5, 6, 7, 8, 9, 10, 11, 12, 13] rfl rfl
      have kr_13 : (fr_k 0 47 pi) = 0 := hr_13
      refine g_iconst (v := 1) B dX1_begin_13 kc_1 ?_
      refine g_bipush (v := 127) B dX1_begin_14 kb_127 ?_
      refine g_iload_n B 3 3 dX1_begin_16 rfl rfl ?_
      refine g_xuS_v (As := [.int 1, .int 127, .int fo]) B (m_X1_requireFrom l hst g 1 127 fo) [] [] (lw_S q580 q581 q26 q582) nsX1_requireFrom rfl rfl rfl rfl (Nat.le_of_ble_eq_true rfl) dX1_begin_17 ⟨Nat.le_of_ble_eq_true rfl, Nat.le_of_ble_eq_true rfl⟩ ⟨Nat.le_of_ble_eq_true rfl, Nat.le_of_ble_eq_true rfl⟩ (fun E hE => ?_) (fun ur_14 hr_14 => ?_)
      · skip
        have hK9 : ¬ (fr_k 1 127 fo) = 0 := by rw [hE.2]; decide
        exact g_xout B hT hA9 (Nat.le_of_ble_eq_true rfl) (Nat.le_of_ble_eq_true rfl) (Or.inr ⟨hE.1, (by first | exact hE.2 | (simp only [k_begin, if_pos b_1, te_3, if_pos kr_13, if_neg hK9]; done) | (simp only [k_begin, if_pos b_1, te_3, if_pos kr_13, if_neg hK9]; rfl) | rfl)⟩) [0, 1, 2, 3, 4, 5, 6, 7, 8, 9, 10, 11, 12, 13] rfl rfl
      have kr_14 : (fr_k 1 127 fo) = 0 := hr_14
      refine g_aload_n B 0 0 dX1_begin_20 rfl rfl ?_
      refine g_get (C := RX1) (T := TX1) (N := 17) B 0 0 9 (.ref (ed 0)) in_X1 rfl q359 rfl (Nat.le_of_ble_eq_true rfl) (fun _ h9 => h9) rfl dX1_begin_21 ?_
      refine g_iload_n B 1 1 dX1_begin_24 rfl rfl ?_
      refine g_iload_n B 2 2 dX1_begin_25 rfl rfl ?_
      refine g_iload_n B 3 3 dX1_begin_26 rfl rfl ?_
      refine g_iconst (v := (-1)) B dX1_begin_27 kc_m1 ?_
      refine g_cV_i (C := RX2) (T := TX2) (N := 12) (As := [.int 2, .int pi, .int fo, .int (-1)]) B (m_X2_begin l hst g ad ed en vf 2 pi fo (-1)) 1 0 rfl rfl [7, 8, 9, 10, 11, 12, 13] [] (lw_V q810 q464 q465 q30 q466) nvX2_begin rfl rfl (fun _ => rfl) rfl rfl (Nat.le_of_ble_eq_true rfl) dX1_begin_28 ⟨Nat.le_of_ble_eq_true rfl, Nat.le_of_ble_eq_true rfl⟩ ⟨Nat.le_of_ble_eq_true rfl, Nat.le_of_ble_eq_true rfl⟩ (fun r_15 ur_15 hr_15 => ?_)
      refine g_eqw (ws' := [((ad 0), cM ad (ed 0) mi lo su), ((ad 2), cA (ad 3) al4), ((ad 3), .inl (g.2.2.1, 10, .inr (.inr (.inr (.inr (iq ad)))))), ((ad 4), cI (ig 0)), ((ad 5), cI (ig 1)), ((ad 6), cI (ig 2)), ((ad 7), cI (ig 3)), ((ed 0), cE (ed 1) (ed 7) (ad 0) (e_be vf en)), ((ed 1), cA (ed 2) al4), ((ed 2), .inl (g.2.2.1, 10, .inr (.inr (.inr (.inr (vq ed)))))), ((ed 3), cV ((e_bv vf en 2 pi fo (-1)) 0)), ((ed 4), cV ((e_bv vf en 2 pi fo (-1)) 1)), ((ed 5), cV ((e_bv vf en 2 pi fo (-1)) 2)), ((ed 6), cV ((e_bv vf en 2 pi fo (-1)) 3))]) rfl ?_
      have hr_15 : r_15 = (nI (v_nx vf)) := hr_15
      subst hr_15
      exact g_xiret B hr dX1_begin_31 (Nat.le_of_ble_eq_true rfl) (Nat.le_of_ble_eq_true rfl) () ⟨(by first | (simp only [k_begin, if_pos b_1, te_3, if_pos kr_13, if_pos kr_14]; done) | (simp only [k_begin, if_pos b_1, te_3, if_pos kr_13, if_pos kr_14]; rfl) | rfl), (by first | (simp only [if_pos b_1, te_3, if_pos kr_13, if_pos kr_14]; done) | (simp only [if_pos b_1, te_3, if_pos kr_13, if_pos kr_14]; rfl) | rfl)⟩ [0, 1, 2, 3, 4, 5, 6, 7, 8, 9, 10, 11, 12, 13] rfl (by first | (simp only [if_pos b_1, te_3, if_pos kr_13, if_pos kr_14]; rfl) | rfl | (rw [e_3]; rfl))
    · skip
      replace e_3 : i = 3 := e_3
      have te_3 : i.toNatClampNeg = 3 := by rw [e_3]; decide
      refine g_lvq (lv' := [(0, .ref (ad 0)), (1, .int 3), (2, .int pi), (3, .int fo)]) (by rw [e_3]) ?_
      refine g_aload_n B 0 0 dX1_begin_0 rfl rfl ?_
      refine g_iload_n B 1 1 dX1_begin_1 rfl rfl ?_
      refine g_cuV_q (C := RX1) (T := TX1) (N := 17) (As := [.int 3]) B (m_X1_instrument l hst g ad (ed 0) mi lo su 3 3 (by decide) (by decide) (ig 3)) 0 0 rfl rfl [0, 1, 2, 6] [] (lw_V q764 q766 qs14 q26 q767) nvX1_instrument rfl rfl rfl rfl (Nat.le_of_ble_eq_true rfl) dX1_begin_2 ⟨Nat.le_of_ble_eq_true rfl, Nat.le_of_ble_eq_true rfl⟩ ⟨Nat.le_of_ble_eq_true rfl, Nat.le_of_ble_eq_true rfl⟩ (fun r_16 ur_16 hr_16 => ?_)
      obtain rfl : some (ad 7) = r_16 := (hr_16).symm
      refine g_eqs (st' := [.ref (ad 7)]) rfl ?_
      refine g_pop B dX1_begin_5 rfl ?_
      refine g_iconst (v := 0) B dX1_begin_6 kc_0 ?_
      refine g_bipush (v := 47) B dX1_begin_7 kb_47 ?_
      refine g_iload_n B 2 2 dX1_begin_9 rfl rfl ?_
      refine g_xuS_v (As := [.int 0, .int 47, .int pi]) B (m_X1_requireFrom l hst g 0 47 pi) [] [] (lw_S q580 q581 q26 q582) nsX1_requireFrom rfl rfl rfl rfl (Nat.le_of_ble_eq_true rfl) dX1_begin_10 ⟨Nat.le_of_ble_eq_true rfl, Nat.le_of_ble_eq_true rfl⟩ ⟨Nat.le_of_ble_eq_true rfl, Nat.le_of_ble_eq_true rfl⟩ (fun E hE => ?_) (fun ur_17 hr_17 => ?_)
      · skip
        have hK9 : ¬ (fr_k 0 47 pi) = 0 := by rw [hE.2]; decide
        exact g_xout B hT hA9 (Nat.le_of_ble_eq_true rfl) (Nat.le_of_ble_eq_true rfl) (Or.inr ⟨hE.1, (by first | exact hE.2 | (simp only [k_begin, if_pos b_1, te_3, if_neg hK9]; done) | (simp only [k_begin, if_pos b_1, te_3, if_neg hK9]; rfl) | rfl)⟩) [0, 1, 2, 3, 4, 5, 6, 7, 8, 9, 10, 11, 12, 13] rfl rfl
      have kr_17 : (fr_k 0 47 pi) = 0 := hr_17
      refine g_iconst (v := 1) B dX1_begin_13 kc_1 ?_
      refine g_bipush (v := 127) B dX1_begin_14 kb_127 ?_
      refine g_iload_n B 3 3 dX1_begin_16 rfl rfl ?_
      refine g_xuS_v (As := [.int 1, .int 127, .int fo]) B (m_X1_requireFrom l hst g 1 127 fo) [] [] (lw_S q580 q581 q26 q582) nsX1_requireFrom rfl rfl rfl rfl (Nat.le_of_ble_eq_true rfl) dX1_begin_17 ⟨Nat.le_of_ble_eq_true rfl, Nat.le_of_ble_eq_true rfl⟩ ⟨Nat.le_of_ble_eq_true rfl, Nat.le_of_ble_eq_true rfl⟩ (fun E hE => ?_) (fun ur_18 hr_18 => ?_)
      · skip
        have hK9 : ¬ (fr_k 1 127 fo) = 0 := by rw [hE.2]; decide
        exact g_xout B hT hA9 (Nat.le_of_ble_eq_true rfl) (Nat.le_of_ble_eq_true rfl) (Or.inr ⟨hE.1, (by first | exact hE.2 | (simp only [k_begin, if_pos b_1, te_3, if_pos kr_17, if_neg hK9]; done) | (simp only [k_begin, if_pos b_1, te_3, if_pos kr_17, if_neg hK9]; rfl) | rfl)⟩) [0, 1, 2, 3, 4, 5, 6, 7, 8, 9, 10, 11, 12, 13] rfl rfl
      have kr_18 : (fr_k 1 127 fo) = 0 := hr_18
      refine g_aload_n B 0 0 dX1_begin_20 rfl rfl ?_
      refine g_get (C := RX1) (T := TX1) (N := 17) B 0 0 9 (.ref (ed 0)) in_X1 rfl q359 rfl (Nat.le_of_ble_eq_true rfl) (fun _ h9 => h9) rfl dX1_begin_21 ?_
      refine g_iload_n B 1 1 dX1_begin_24 rfl rfl ?_
      refine g_iload_n B 2 2 dX1_begin_25 rfl rfl ?_
      refine g_iload_n B 3 3 dX1_begin_26 rfl rfl ?_
      refine g_iconst (v := (-1)) B dX1_begin_27 kc_m1 ?_
      refine g_cV_i (C := RX2) (T := TX2) (N := 12) (As := [.int 3, .int pi, .int fo, .int (-1)]) B (m_X2_begin l hst g ad ed en vf 3 pi fo (-1)) 1 0 rfl rfl [7, 8, 9, 10, 11, 12, 13] [] (lw_V q810 q464 q465 q30 q466) nvX2_begin rfl rfl (fun _ => rfl) rfl rfl (Nat.le_of_ble_eq_true rfl) dX1_begin_28 ⟨Nat.le_of_ble_eq_true rfl, Nat.le_of_ble_eq_true rfl⟩ ⟨Nat.le_of_ble_eq_true rfl, Nat.le_of_ble_eq_true rfl⟩ (fun r_19 ur_19 hr_19 => ?_)
      refine g_eqw (ws' := [((ad 0), cM ad (ed 0) mi lo su), ((ad 2), cA (ad 3) al4), ((ad 3), .inl (g.2.2.1, 10, .inr (.inr (.inr (.inr (iq ad)))))), ((ad 4), cI (ig 0)), ((ad 5), cI (ig 1)), ((ad 6), cI (ig 2)), ((ad 7), cI (ig 3)), ((ed 0), cE (ed 1) (ed 7) (ad 0) (e_be vf en)), ((ed 1), cA (ed 2) al4), ((ed 2), .inl (g.2.2.1, 10, .inr (.inr (.inr (.inr (vq ed)))))), ((ed 3), cV ((e_bv vf en 3 pi fo (-1)) 0)), ((ed 4), cV ((e_bv vf en 3 pi fo (-1)) 1)), ((ed 5), cV ((e_bv vf en 3 pi fo (-1)) 2)), ((ed 6), cV ((e_bv vf en 3 pi fo (-1)) 3))]) rfl ?_
      have hr_19 : r_19 = (nI (v_nx vf)) := hr_19
      subst hr_19
      exact g_xiret B hr dX1_begin_31 (Nat.le_of_ble_eq_true rfl) (Nat.le_of_ble_eq_true rfl) () ⟨(by first | (simp only [k_begin, if_pos b_1, te_3, if_pos kr_17, if_pos kr_18]; done) | (simp only [k_begin, if_pos b_1, te_3, if_pos kr_17, if_pos kr_18]; rfl) | rfl), (by first | (simp only [if_pos b_1, te_3, if_pos kr_17, if_pos kr_18]; done) | (simp only [if_pos b_1, te_3, if_pos kr_17, if_pos kr_18]; rfl) | rfl)⟩ [0, 1, 2, 3, 4, 5, 6, 7, 8, 9, 10, 11, 12, 13] rfl (by first | (simp only [if_pos b_1, te_3, if_pos kr_17, if_pos kr_18]; rfl) | rfl | (rw [e_3]; rfl))
  · skip
    refine g_aload_n B 0 0 dX1_begin_0 rfl rfl ?_
    refine g_iload_n B 1 1 dX1_begin_1 rfl rfl ?_
    refine g_xuV_q (C := RX1) (T := TX1) (N := 17) (As := [.int i]) B (m_X1_instrument_b l hst g ad (ed 0) mi lo su i b_1) 0 0 rfl rfl [0] [] (lw_V q764 q766 qs14 q26 q767) nvX1_instrument rfl rfl rfl rfl (Nat.le_of_ble_eq_true rfl) dX1_begin_2 ⟨Nat.le_of_ble_eq_true rfl, Nat.le_of_ble_eq_true rfl⟩ ⟨Nat.le_of_ble_eq_true rfl, Nat.le_of_ble_eq_true rfl⟩ (fun E hE => ?_) (fun r_20 ur_20 hr_20 => ?_)
    · skip
      have hK9 : ¬ (ix_k i 4) = 0 := by rw [hE.2]; decide
      exact g_xout B hT hA9 (Nat.le_of_ble_eq_true rfl) (Nat.le_of_ble_eq_true rfl) (Or.inl ⟨hE.1, (by first | exact hE.2 | (simp only [k_begin, if_neg b_1, if_neg hK9]; done) | (simp only [k_begin, if_neg b_1, if_neg hK9]; rfl) | rfl)⟩) [0, 1, 2, 3, 4, 5, 6, 7, 8, 9, 10, 11, 12, 13] rfl rfl
    have kr_20 : (ix_k i 4) = 0 := hr_20.1
    replace hr_20 := hr_20.2
    exact absurd kr_20 b_1

set_option maxHeartbeats 4000000 in
set_option maxRecDepth 100000 in
theorem m_X1_end (l : Launch) (hst : l.stackTraces = false) (g : gG) (ad ed : Nat → Nat) (mi : Nat → Int32) (lo su : Int64) (en : Nat → Int32) (vf : Nat → Nat → Int32) (i : Int32) : gXi l yX1_end cX1_end 4 .int 8 131 8 48 g [((ad 0), cM ad (ed 0) mi lo su), ((ed 0), cE (ed 1) (ed 7) (ad 0) en), ((ed 1), cA (ed 2) al4), ((ed 2), .inl (g.2.2.1, 10, .inr (.inr (.inr (.inr (vq ed)))))), ((ed 3), cV (vf 0)), ((ed 4), cV (vf 1)), ((ed 5), cV (vf 2)), ((ed 6), cV (vf 3))] [.ref (ad 0), .int i] (fun (r : Int32) (_ : Unit) => (k_end i) = 0 ∧ r = vf i.toNatClampNeg 0) (fun _ : Unit => [((ad 0), cM ad (ed 0) mi lo su), ((ed 0), cE (ed 1) (ed 7) (ad 0) en), ((ed 1), cA (ed 2) al4), ((ed 2), .inl (g.2.2.1, 10, .inr (.inr (.inr (.inr (vq ed)))))), ((ed 3), cV ((va_up vf i.toNatClampNeg (v_end (vf i.toNatClampNeg))) 0)), ((ed 4), cV ((va_up vf i.toNatClampNeg (v_end (vf i.toNatClampNeg))) 1)), ((ed 5), cV ((va_up vf i.toNatClampNeg (v_end (vf i.toNatClampNeg))) 2)), ((ed 6), cV ((va_up vf i.toNatClampNeg (v_end (vf i.toNatClampNeg))) 3))]) (fun E : String => E = eIO ∧ (k_end i) = 1) := by
  intro sz
  refine g_xent (by decide) hst [(0, .ref (ad 0)), (1, .int i)] (Nat.le_of_ble_eq_true rfl) rfl ?_
  intro p e s m below meth c B hr hnm hsz hT
  have B : gB p l s m ([.ref (ad 0), .int i] : List Value).toArray meth c RX1 cX1_end 4 g (va_A [((ad 0), cM ad (ed 0) mi lo su), ((ed 0), cE (ed 1) (ed 7) (ad 0) en), ((ed 1), cA (ed 2) al4), ((ed 2), .inl (g.2.2.1, 10, .inr (.inr (.inr (.inr (vq ed)))))), ((ed 3), cV (vf 0)), ((ed 4), cV (vf 1)), ((ed 5), cV (vf 2)), ((ed 6), cV (vf 3))] sz) := B
  have hA9 : (va_A [((ad 0), cM ad (ed 0) mi lo su), ((ed 0), cE (ed 1) (ed 7) (ad 0) en), ((ed 1), cA (ed 2) al4), ((ed 2), .inl (g.2.2.1, 10, .inr (.inr (.inr (.inr (vq ed)))))), ((ed 3), cV (vf 0)), ((ed 4), cV (vf 1)), ((ed 5), cV (vf 2)), ((ed 6), cV (vf 3))] sz) = va_A [((ad 0), cM ad (ed 0) mi lo su), ((ed 0), cE (ed 1) (ed 7) (ad 0) en), ((ed 1), cA (ed 2) al4), ((ed 2), .inl (g.2.2.1, 10, .inr (.inr (.inr (.inr (vq ed)))))), ((ed 3), cV (vf 0)), ((ed 4), cV (vf 1)), ((ed 5), cV (vf 2)), ((ed 6), cV (vf 3))] s.heap.size := by rw [hsz]
  subst hsz
  by_cases b_1 : ix_k i 4 = 0
  · skip
    obtain ⟨q_2, hq_2, e_3⟩ := ix_nat (N := 4) b_1 (by decide) (by decide)
    rcases (show q_2 = 0 ∨ q_2 = 1 ∨ q_2 = 2 ∨ q_2 = 3 by omega) with rfl | rfl | rfl | rfl
    · skip
      replace e_3 : i = 0 := e_3
      have te_3 : i.toNatClampNeg = 0 := by rw [e_3]; decide
      refine g_lvq (lv' := [(0, .ref (ad 0)), (1, .int 0)]) (by rw [e_3]) ?_
      refine g_aload_n B 0 0 dX1_end_0 rfl rfl ?_
      refine g_iload_n B 1 1 dX1_end_1 rfl rfl ?_
      refine g_cuV_q (C := RX1) (T := TX1) (N := 17) (As := [.int 0]) B (m_X1_voice l hst g ad ed mi lo su en 0 0 (by decide) (by decide) (vf 0)) 0 0 rfl rfl [0, 1, 2, 3, 4] [] (lw_V q665 q667 qs12 q26 q668) nvX1_voice rfl rfl rfl rfl (Nat.le_of_ble_eq_true rfl) dX1_end_2 ⟨Nat.le_of_ble_eq_true rfl, Nat.le_of_ble_eq_true rfl⟩ ⟨Nat.le_of_ble_eq_true rfl, Nat.le_of_ble_eq_true rfl⟩ (fun r_4 ur_4 hr_4 => ?_)
      obtain rfl : some (ed 3) = r_4 := (hr_4).symm
      refine g_eqs (st' := [.ref (ed 3)]) rfl ?_
      refine g_astore_n B 2 [(2, .ref (ed 3)), (0, .ref (ad 0)), (1, .int 0)] dX1_end_5 rfl (Nat.le_of_ble_eq_true rfl) rfl ?_
      refine g_aload_n B 2 0 dX1_end_6 rfl rfl ?_
      refine g_getN (C := RX5) (T := TX5) (N := 11) B 4 4 0 (.int ((vf 0) 0)) in_X5 rfl q292 rfl (Nat.le_of_ble_eq_true rfl) (fun _ h9 => h9) rfl dX1_end_7 ?_
      refine g_istore_n B 3 [(3, .int ((vf 0) 0)), (2, .ref (ed 3)), (0, .ref (ad 0)), (1, .int 0)] dX1_end_10 rfl (Nat.le_of_ble_eq_true rfl) rfl ?_
      refine g_aload_n B 2 1 dX1_end_11 rfl rfl ?_
      refine g_cV_v (C := RX5) (T := TX5) (N := 11) (As := []) B (m_X5_end l hst g (ed 3) (vf 0)) 4 0 rfl rfl [4] [] (lw_V q818 q455 q456 q37 q457) nvX5_end rfl rfl (fun _ => rfl) rfl rfl (Nat.le_of_ble_eq_true rfl) dX1_end_12 ⟨Nat.le_of_ble_eq_true rfl, Nat.le_of_ble_eq_true rfl⟩ ⟨Nat.le_of_ble_eq_true rfl, Nat.le_of_ble_eq_true rfl⟩ (fun ur_5 hr_5 => ?_)
      refine g_eqw (ws' := [((ad 0), cM ad (ed 0) mi lo su), ((ed 0), cE (ed 1) (ed 7) (ad 0) en), ((ed 1), cA (ed 2) al4), ((ed 2), .inl (g.2.2.1, 10, .inr (.inr (.inr (.inr (vq ed)))))), ((ed 3), cV (v_end (vf 0))), ((ed 4), cV (vf 1)), ((ed 5), cV (vf 2)), ((ed 6), cV (vf 3))]) rfl ?_
      refine g_iload_n B 3 0 dX1_end_15 rfl rfl ?_
      exact g_xiret B hr dX1_end_16 (Nat.le_of_ble_eq_true rfl) (Nat.le_of_ble_eq_true rfl) () ⟨(by first | (simp only [k_end, if_pos b_1, te_3]; done) | (simp only [k_end, if_pos b_1, te_3]; rfl) | rfl), (by first | (simp only [if_pos b_1, te_3]; done) | (simp only [if_pos b_1, te_3]; rfl) | rfl)⟩ [0, 1, 2, 3, 4, 5, 6, 7] rfl (by first | (simp only [if_pos b_1, te_3]; rfl) | rfl | (rw [e_3]; rfl))
    · skip
      replace e_3 : i = 1 := e_3
      have te_3 : i.toNatClampNeg = 1 := by rw [e_3]; decide
      refine g_lvq (lv' := [(0, .ref (ad 0)), (1, .int 1)]) (by rw [e_3]) ?_
      refine g_aload_n B 0 0 dX1_end_0 rfl rfl ?_
      refine g_iload_n B 1 1 dX1_end_1 rfl rfl ?_
      refine g_cuV_q (C := RX1) (T := TX1) (N := 17) (As := [.int 1]) B (m_X1_voice l hst g ad ed mi lo su en 1 1 (by decide) (by decide) (vf 1)) 0 0 rfl rfl [0, 1, 2, 3, 5] [] (lw_V q665 q667 qs12 q26 q668) nvX1_voice rfl rfl rfl rfl (Nat.le_of_ble_eq_true rfl) dX1_end_2 ⟨Nat.le_of_ble_eq_true rfl, Nat.le_of_ble_eq_true rfl⟩ ⟨Nat.le_of_ble_eq_true rfl, Nat.le_of_ble_eq_true rfl⟩ (fun r_6 ur_6 hr_6 => ?_)
      obtain rfl : some (ed 4) = r_6 := (hr_6).symm
      refine g_eqs (st' := [.ref (ed 4)]) rfl ?_
      refine g_astore_n B 2 [(2, .ref (ed 4)), (0, .ref (ad 0)), (1, .int 1)] dX1_end_5 rfl (Nat.le_of_ble_eq_true rfl) rfl ?_
      refine g_aload_n B 2 0 dX1_end_6 rfl rfl ?_
      refine g_getN (C := RX5) (T := TX5) (N := 11) B 4 5 0 (.int ((vf 1) 0)) in_X5 rfl q292 rfl (Nat.le_of_ble_eq_true rfl) (fun _ h9 => h9) rfl dX1_end_7 ?_
      refine g_istore_n B 3 [(3, .int ((vf 1) 0)), (2, .ref (ed 4)), (0, .ref (ad 0)), (1, .int 1)] dX1_end_10 rfl (Nat.le_of_ble_eq_true rfl) rfl ?_
      refine g_aload_n B 2 1 dX1_end_11 rfl rfl ?_
      refine g_cV_v (C := RX5) (T := TX5) (N := 11) (As := []) B (m_X5_end l hst g (ed 4) (vf 1)) 4 0 rfl rfl [5] [] (lw_V q818 q455 q456 q37 q457) nvX5_end rfl rfl (fun _ => rfl) rfl rfl (Nat.le_of_ble_eq_true rfl) dX1_end_12 ⟨Nat.le_of_ble_eq_true rfl, Nat.le_of_ble_eq_true rfl⟩ ⟨Nat.le_of_ble_eq_true rfl, Nat.le_of_ble_eq_true rfl⟩ (fun ur_7 hr_7 => ?_)
      refine g_eqw (ws' := [((ad 0), cM ad (ed 0) mi lo su), ((ed 0), cE (ed 1) (ed 7) (ad 0) en), ((ed 1), cA (ed 2) al4), ((ed 2), .inl (g.2.2.1, 10, .inr (.inr (.inr (.inr (vq ed)))))), ((ed 3), cV (vf 0)), ((ed 4), cV (v_end (vf 1))), ((ed 5), cV (vf 2)), ((ed 6), cV (vf 3))]) rfl ?_
      refine g_iload_n B 3 0 dX1_end_15 rfl rfl ?_
      exact g_xiret B hr dX1_end_16 (Nat.le_of_ble_eq_true rfl) (Nat.le_of_ble_eq_true rfl) () ⟨(by first | (simp only [k_end, if_pos b_1, te_3]; done) | (simp only [k_end, if_pos b_1, te_3]; rfl) | rfl), (by first | (simp only [if_pos b_1, te_3]; done) | (simp only [if_pos b_1, te_3]; rfl) | rfl)⟩ [0, 1, 2, 3, 4, 5, 6, 7] rfl (by first | (simp only [if_pos b_1, te_3]; rfl) | rfl | (rw [e_3]; rfl))
    · skip
      replace e_3 : i = 2 := e_3
      have te_3 : i.toNatClampNeg = 2 := by rw [e_3]; decide
      refine g_lvq (lv' := [(0, .ref (ad 0)), (1, .int 2)]) (by rw [e_3]) ?_
      refine g_aload_n B 0 0 dX1_end_0 rfl rfl ?_
      refine g_iload_n B 1 1 dX1_end_1 rfl rfl ?_
      refine g_cuV_q (C := RX1) (T := TX1) (N := 17) (As := [.int 2]) B (m_X1_voice l hst g ad ed mi lo su en 2 2 (by decide) (by decide) (vf 2)) 0 0 rfl rfl [0, 1, 2, 3, 6] [] (lw_V q665 q667 qs12 q26 q668) nvX1_voice rfl rfl rfl rfl (Nat.le_of_ble_eq_true rfl) dX1_end_2 ⟨Nat.le_of_ble_eq_true rfl, Nat.le_of_ble_eq_true rfl⟩ ⟨Nat.le_of_ble_eq_true rfl, Nat.le_of_ble_eq_true rfl⟩ (fun r_8 ur_8 hr_8 => ?_)
      obtain rfl : some (ed 5) = r_8 := (hr_8).symm
      refine g_eqs (st' := [.ref (ed 5)]) rfl ?_
      refine g_astore_n B 2 [(2, .ref (ed 5)), (0, .ref (ad 0)), (1, .int 2)] dX1_end_5 rfl (Nat.le_of_ble_eq_true rfl) rfl ?_
      refine g_aload_n B 2 0 dX1_end_6 rfl rfl ?_
      refine g_getN (C := RX5) (T := TX5) (N := 11) B 4 6 0 (.int ((vf 2) 0)) in_X5 rfl q292 rfl (Nat.le_of_ble_eq_true rfl) (fun _ h9 => h9) rfl dX1_end_7 ?_
      refine g_istore_n B 3 [(3, .int ((vf 2) 0)), (2, .ref (ed 5)), (0, .ref (ad 0)), (1, .int 2)] dX1_end_10 rfl (Nat.le_of_ble_eq_true rfl) rfl ?_
      refine g_aload_n B 2 1 dX1_end_11 rfl rfl ?_
      refine g_cV_v (C := RX5) (T := TX5) (N := 11) (As := []) B (m_X5_end l hst g (ed 5) (vf 2)) 4 0 rfl rfl [6] [] (lw_V q818 q455 q456 q37 q457) nvX5_end rfl rfl (fun _ => rfl) rfl rfl (Nat.le_of_ble_eq_true rfl) dX1_end_12 ⟨Nat.le_of_ble_eq_true rfl, Nat.le_of_ble_eq_true rfl⟩ ⟨Nat.le_of_ble_eq_true rfl, Nat.le_of_ble_eq_true rfl⟩ (fun ur_9 hr_9 => ?_)
      refine g_eqw (ws' := [((ad 0), cM ad (ed 0) mi lo su), ((ed 0), cE (ed 1) (ed 7) (ad 0) en), ((ed 1), cA (ed 2) al4), ((ed 2), .inl (g.2.2.1, 10, .inr (.inr (.inr (.inr (vq ed)))))), ((ed 3), cV (vf 0)), ((ed 4), cV (vf 1)), ((ed 5), cV (v_end (vf 2))), ((ed 6), cV (vf 3))]) rfl ?_
      refine g_iload_n B 3 0 dX1_end_15 rfl rfl ?_
      exact g_xiret B hr dX1_end_16 (Nat.le_of_ble_eq_true rfl) (Nat.le_of_ble_eq_true rfl) () ⟨(by first | (simp only [k_end, if_pos b_1, te_3]; done) | (simp only [k_end, if_pos b_1, te_3]; rfl) | rfl), (by first | (simp only [if_pos b_1, te_3]; done) | (simp only [if_pos b_1, te_3]; rfl) | rfl)⟩ [0, 1, 2, 3, 4, 5, 6, 7] rfl (by first | (simp only [if_pos b_1, te_3]; rfl) | rfl | (rw [e_3]; rfl))
    · skip
      replace e_3 : i = 3 := e_3
      have te_3 : i.toNatClampNeg = 3 := by rw [e_3]; decide
      refine g_lvq (lv' := [(0, .ref (ad 0)), (1, .int 3)]) (by rw [e_3]) ?_
      refine g_aload_n B 0 0 dX1_end_0 rfl rfl ?_
      refine g_iload_n B 1 1 dX1_end_1 rfl rfl ?_
      refine g_cuV_q (C := RX1) (T := TX1) (N := 17) (As := [.int 3]) B (m_X1_voice l hst g ad ed mi lo su en 3 3 (by decide) (by decide) (vf 3)) 0 0 rfl rfl [0, 1, 2, 3, 7] [] (lw_V q665 q667 qs12 q26 q668) nvX1_voice rfl rfl rfl rfl (Nat.le_of_ble_eq_true rfl) dX1_end_2 ⟨Nat.le_of_ble_eq_true rfl, Nat.le_of_ble_eq_true rfl⟩ ⟨Nat.le_of_ble_eq_true rfl, Nat.le_of_ble_eq_true rfl⟩ (fun r_10 ur_10 hr_10 => ?_)
      obtain rfl : some (ed 6) = r_10 := (hr_10).symm
      refine g_eqs (st' := [.ref (ed 6)]) rfl ?_
      refine g_astore_n B 2 [(2, .ref (ed 6)), (0, .ref (ad 0)), (1, .int 3)] dX1_end_5 rfl (Nat.le_of_ble_eq_true rfl) rfl ?_
      refine g_aload_n B 2 0 dX1_end_6 rfl rfl ?_
      refine g_getN (C := RX5) (T := TX5) (N := 11) B 4 7 0 (.int ((vf 3) 0)) in_X5 rfl q292 rfl (Nat.le_of_ble_eq_true rfl) (fun _ h9 => h9) rfl dX1_end_7 ?_
      refine g_istore_n B 3 [(3, .int ((vf 3) 0)), (2, .ref (ed 6)), (0, .ref (ad 0)), (1, .int 3)] dX1_end_10 rfl (Nat.le_of_ble_eq_true rfl) rfl ?_
      refine g_aload_n B 2 1 dX1_end_11 rfl rfl ?_
      refine g_cV_v (C := RX5) (T := TX5) (N := 11) (As := []) B (m_X5_end l hst g (ed 6) (vf 3)) 4 0 rfl rfl [7] [] (lw_V q818 q455 q456 q37 q457) nvX5_end rfl rfl (fun _ => rfl) rfl rfl (Nat.le_of_ble_eq_true rfl) dX1_end_12 ⟨Nat.le_of_ble_eq_true rfl, Nat.le_of_ble_eq_true rfl⟩ ⟨Nat.le_of_ble_eq_true rfl, Nat.le_of_ble_eq_true rfl⟩ (fun ur_11 hr_11 => ?_)
      refine g_eqw (ws' := [((ad 0), cM ad (ed 0) mi lo su), ((ed 0), cE (ed 1) (ed 7) (ad 0) en), ((ed 1), cA (ed 2) al4), ((ed 2), .inl (g.2.2.1, 10, .inr (.inr (.inr (.inr (vq ed)))))), ((ed 3), cV (vf 0)), ((ed 4), cV (vf 1)), ((ed 5), cV (vf 2)), ((ed 6), cV (v_end (vf 3)))]) rfl ?_
      refine g_iload_n B 3 0 dX1_end_15 rfl rfl ?_
      exact g_xiret B hr dX1_end_16 (Nat.le_of_ble_eq_true rfl) (Nat.le_of_ble_eq_true rfl) () ⟨(by first | (simp only [k_end, if_pos b_1, te_3]; done) | (simp only [k_end, if_pos b_1, te_3]; rfl) | rfl), (by first | (simp only [if_pos b_1, te_3]; done) | (simp only [if_pos b_1, te_3]; rfl) | rfl)⟩ [0, 1, 2, 3, 4, 5, 6, 7] rfl (by first | (simp only [if_pos b_1, te_3]; rfl) | rfl | (rw [e_3]; rfl))
  · skip
    refine g_aload_n B 0 0 dX1_end_0 rfl rfl ?_
    refine g_iload_n B 1 1 dX1_end_1 rfl rfl ?_
    refine g_xuV_q (C := RX1) (T := TX1) (N := 17) (As := [.int i]) B (m_X1_voice_b l hst g ad (ed 0) mi lo su i b_1) 0 0 rfl rfl [0] [] (lw_V q665 q667 qs12 q26 q668) nvX1_voice rfl rfl rfl rfl (Nat.le_of_ble_eq_true rfl) dX1_end_2 ⟨Nat.le_of_ble_eq_true rfl, Nat.le_of_ble_eq_true rfl⟩ ⟨Nat.le_of_ble_eq_true rfl, Nat.le_of_ble_eq_true rfl⟩ (fun E hE => ?_) (fun r_12 ur_12 hr_12 => ?_)
    · skip
      have hK9 : ¬ (ix_k i 4) = 0 := by rw [hE.2]; decide
      exact g_xout B hT hA9 (Nat.le_of_ble_eq_true rfl) (Nat.le_of_ble_eq_true rfl) ⟨hE.1, (by first | exact hE.2 | (simp only [k_end, if_neg b_1, if_neg hK9]; done) | (simp only [k_end, if_neg b_1, if_neg hK9]; rfl) | rfl)⟩ [0, 1, 2, 3, 4, 5, 6, 7] rfl rfl
    have kr_12 : (ix_k i 4) = 0 := hr_12.1
    replace hr_12 := hr_12.2
    exact absurd kr_12 b_1

set_option maxHeartbeats 4000000 in
set_option maxRecDepth 100000 in
theorem m_X1_hush (l : Launch) (hst : l.stackTraces = false) (g : gG) (ad ed : Nat → Nat) (mi : Nat → Int32) (lo su : Int64) (en : Nat → Int32) (vf : Nat → Nat → Int32) : gMi l yX1_hush cX1_hush 4 .int 4 86 0 0 g [((ad 0), cM ad (ed 0) mi lo su), ((ed 0), cE (ed 1) (ed 7) (ad 0) en), ((ed 1), cA (ed 2) al4), ((ed 2), .inl (g.2.2.1, 10, .inr (.inr (.inr (.inr (vq ed)))))), ((ed 3), cV (vf 0)), ((ed 4), cV (vf 1)), ((ed 5), cV (vf 2)), ((ed 6), cV (vf 3))] [.ref (ad 0)] (fun (r : Int32) (_ : Unit) => r = v_snd vf) (fun _ : Unit => [((ad 0), cM ad (ed 0) mi lo su), ((ed 0), cE (ed 1) (ed 7) (ad 0) en), ((ed 1), cA (ed 2) al4), ((ed 2), .inl (g.2.2.1, 10, .inr (.inr (.inr (.inr (vq ed)))))), ((ed 3), cV ((fun k => v_hush (vf k)) 0)), ((ed 4), cV ((fun k => v_hush (vf k)) 1)), ((ed 5), cV ((fun k => v_hush (vf k)) 2)), ((ed 6), cV ((fun k => v_hush (vf k)) 3))]) := by
  intro sz
  refine g_ent (by decide) hst [(0, .ref (ad 0))] (Nat.le_of_ble_eq_true rfl) rfl ?_
  intro p e s m below meth c B hr hnm hsz
  have B : gB p l s m ([.ref (ad 0)] : List Value).toArray meth c RX1 cX1_hush 4 g (va_A [((ad 0), cM ad (ed 0) mi lo su), ((ed 0), cE (ed 1) (ed 7) (ad 0) en), ((ed 1), cA (ed 2) al4), ((ed 2), .inl (g.2.2.1, 10, .inr (.inr (.inr (.inr (vq ed)))))), ((ed 3), cV (vf 0)), ((ed 4), cV (vf 1)), ((ed 5), cV (vf 2)), ((ed 6), cV (vf 3))] sz) := B
  refine g_aload_n B 0 0 dX1_hush_0 rfl rfl ?_
  refine g_get (C := RX1) (T := TX1) (N := 17) B 0 0 9 (.ref (ed 0)) in_X1 rfl q359 rfl (Nat.le_of_ble_eq_true rfl) (fun _ h9 => h9) rfl dX1_hush_1 ?_
  refine g_cuV_i (C := RX2) (T := TX2) (N := 12) (As := []) B (m_X2_sounding l hst g ad ed en vf) 1 0 rfl rfl [1, 2, 3, 4, 5, 6, 7] [] (lw_V q406 q407 q408 q30 q409) nvX2_sounding rfl rfl rfl rfl (Nat.le_of_ble_eq_true rfl) dX1_hush_4 ⟨Nat.le_of_ble_eq_true rfl, Nat.le_of_ble_eq_true rfl⟩ ⟨Nat.le_of_ble_eq_true rfl, Nat.le_of_ble_eq_true rfl⟩ (fun r_1 ur_1 hr_1 => ?_)
  have hr_1 : r_1 = (v_snd vf) := hr_1
  refine g_istore_n B 1 [(1, .int r_1), (0, .ref (ad 0))] dX1_hush_7 rfl (Nat.le_of_ble_eq_true rfl) rfl ?_
  refine g_iconst (v := 0) B dX1_hush_8 kc_0 ?_
  refine g_istore_n B 2 [(2, .int 0), (1, .int r_1), (0, .ref (ad 0))] dX1_hush_9 rfl (Nat.le_of_ble_eq_true rfl) rfl ?_
  refine g_iload_n B 2 0 dX1_hush_10 rfl rfl ?_
  refine g_iconst (v := 4) B dX1_hush_11 kc_4 ?_
  refine g_icmp_ge_F (tgt := 51) B dX1_hush_12 (by decide) (by decide) ?_
  refine g_aload_n B 0 2 dX1_hush_15 rfl rfl ?_
  refine g_get (C := RX1) (T := TX1) (N := 17) B 0 0 9 (.ref (ed 0)) in_X1 rfl q359 rfl (Nat.le_of_ble_eq_true rfl) (fun _ h9 => h9) rfl dX1_hush_16 ?_
  refine g_getN (C := RX2) (T := TX2) (N := 12) B 1 1 0 (.ref (ed 1)) in_X2 rfl q93 rfl (Nat.le_of_ble_eq_true rfl) (fun _ h9 => h9) rfl dX1_hush_19 ?_
  refine g_iload_n B 2 0 dX1_hush_22 rfl rfl ?_
  refine g_cuV_q (C := RJ2) (T := TJ2) (N := 3) (As := [.int 0]) B (m_J2_get l hst g (ed 1) (ed 2) al4 10 (vq ed) 0 0 (ed 3) (by decide) (by decide) (by decide) (vpc rfl) rfl) 7 0 rfl rfl [2, 3] [] (lw_V q429 q411 q412 q29 q413) nvJ2_get rfl rfl rfl rfl (Nat.le_of_ble_eq_true rfl) dX1_hush_23 ⟨Nat.le_of_ble_eq_true rfl, Nat.le_of_ble_eq_true rfl⟩ ⟨Nat.le_of_ble_eq_true rfl, Nat.le_of_ble_eq_true rfl⟩ (fun r_2 ur_2 hr_2 => ?_)
  obtain rfl : some (ed 3) = r_2 := (hr_2).symm
  refine g_eqs (st' := [.ref (ed 3)]) rfl ?_
  refine g_cast (C := RX5) (T := TX5) (N := 11) B 4 4 q284 rfl rfl dX1_hush_26 ?_
  refine g_astore_n B 3 [(3, .ref (ed 3)), (2, .int 0), (1, .int r_1), (0, .ref (ad 0))] dX1_hush_29 rfl (Nat.le_of_ble_eq_true rfl) rfl ?_
  refine g_aload_n B 3 0 dX1_hush_30 rfl rfl ?_
  refine g_iconst (v := 0) B dX1_hush_31 kc_0 ?_
  refine g_putN (C := RX5) (T := TX5) (N := 11) (ty := .int) (v := .int 0) B 4 4 0 [((ad 0), cM ad (ed 0) mi lo su), ((ed 0), cE (ed 1) (ed 7) (ad 0) en), ((ed 1), cA (ed 2) al4), ((ed 2), .inl (g.2.2.1, 10, .inr (.inr (.inr (.inr (vq ed)))))), ((ed 3), cV (upd (vf 0) 0 0)), ((ed 4), cV (vf 1)), ((ed 5), cV (vf 2)), ((ed 6), cV (vf 3))] in_X5 tyX5 tyX5_ok nmX5 rfl q292 rfl (Nat.le_of_ble_eq_true rfl) (fun _ h9 => h9) rfl rfl rfl rfl (Nat.le_of_ble_eq_true rfl) rfl dX1_hush_32 ?_
  refine g_aload_n B 3 0 dX1_hush_35 rfl rfl ?_
  refine g_iconst (v := 0) B dX1_hush_36 kc_0 ?_
  refine g_putN (C := RX5) (T := TX5) (N := 11) (ty := .int) (v := .int 0) B 4 4 1 [((ad 0), cM ad (ed 0) mi lo su), ((ed 0), cE (ed 1) (ed 7) (ad 0) en), ((ed 1), cA (ed 2) al4), ((ed 2), .inl (g.2.2.1, 10, .inr (.inr (.inr (.inr (vq ed)))))), ((ed 3), cV (upd (upd (vf 0) 0 0) 1 0)), ((ed 4), cV (vf 1)), ((ed 5), cV (vf 2)), ((ed 6), cV (vf 3))] in_X5 tyX5 tyX5_ok nmX5 rfl q295 rfl (Nat.le_of_ble_eq_true rfl) (fun _ h9 => h9) rfl rfl rfl rfl (Nat.le_of_ble_eq_true rfl) rfl dX1_hush_37 ?_
  refine g_aload_n B 3 0 dX1_hush_40 rfl rfl ?_
  refine g_iconst (v := (-1)) B dX1_hush_41 kc_m1 ?_
  refine g_putN (C := RX5) (T := TX5) (N := 11) (ty := .int) (v := .int (-1)) B 4 4 10 [((ad 0), cM ad (ed 0) mi lo su), ((ed 0), cE (ed 1) (ed 7) (ad 0) en), ((ed 1), cA (ed 2) al4), ((ed 2), .inl (g.2.2.1, 10, .inr (.inr (.inr (.inr (vq ed)))))), ((ed 3), cV (upd (upd (upd (vf 0) 0 0) 1 0) 10 (-1))), ((ed 4), cV (vf 1)), ((ed 5), cV (vf 2)), ((ed 6), cV (vf 3))] in_X5 tyX5 tyX5_ok nmX5 rfl q318 rfl (Nat.le_of_ble_eq_true rfl) (fun _ h9 => h9) rfl rfl rfl rfl (Nat.le_of_ble_eq_true rfl) rfl dX1_hush_42 ?_
  refine g_iinc B 1 1 [(2, .int 1), (3, .ref (ed 3)), (1, .int r_1), (0, .ref (ad 0))] dX1_hush_45 rfl (by decide) (Nat.le_of_ble_eq_true rfl) rfl ?_
  refine g_goto (tgt := 10) B dX1_hush_48 (by decide) ?_
  refine g_iload_n B 2 0 dX1_hush_10 rfl rfl ?_
  refine g_iconst (v := 4) B dX1_hush_11 kc_4 ?_
  refine g_icmp_ge_F (tgt := 51) B dX1_hush_12 (by decide) (by decide) ?_
  refine g_aload_n B 0 3 dX1_hush_15 rfl rfl ?_
  refine g_get (C := RX1) (T := TX1) (N := 17) B 0 0 9 (.ref (ed 0)) in_X1 rfl q359 rfl (Nat.le_of_ble_eq_true rfl) (fun _ h9 => h9) rfl dX1_hush_16 ?_
  refine g_getN (C := RX2) (T := TX2) (N := 12) B 1 1 0 (.ref (ed 1)) in_X2 rfl q93 rfl (Nat.le_of_ble_eq_true rfl) (fun _ h9 => h9) rfl dX1_hush_19 ?_
  refine g_iload_n B 2 0 dX1_hush_22 rfl rfl ?_
  refine g_cuV_q (C := RJ2) (T := TJ2) (N := 3) (As := [.int 1]) B (m_J2_get l hst g (ed 1) (ed 2) al4 10 (vq ed) 1 1 (ed 4) (by decide) (by decide) (by decide) (vpc rfl) rfl) 7 0 rfl rfl [2, 3] [] (lw_V q429 q411 q412 q29 q413) nvJ2_get rfl rfl rfl rfl (Nat.le_of_ble_eq_true rfl) dX1_hush_23 ⟨Nat.le_of_ble_eq_true rfl, Nat.le_of_ble_eq_true rfl⟩ ⟨Nat.le_of_ble_eq_true rfl, Nat.le_of_ble_eq_true rfl⟩ (fun r_3 ur_3 hr_3 => ?_)
  obtain rfl : some (ed 4) = r_3 := (hr_3).symm
  refine g_eqs (st' := [.ref (ed 4)]) rfl ?_
  refine g_cast (C := RX5) (T := TX5) (N := 11) B 4 5 q284 rfl rfl dX1_hush_26 ?_
  refine g_astore_n B 3 [(3, .ref (ed 4)), (2, .int 1), (1, .int r_1), (0, .ref (ad 0))] dX1_hush_29 rfl (Nat.le_of_ble_eq_true rfl) rfl ?_
  refine g_aload_n B 3 0 dX1_hush_30 rfl rfl ?_
  refine g_iconst (v := 0) B dX1_hush_31 kc_0 ?_
  refine g_putN (C := RX5) (T := TX5) (N := 11) (ty := .int) (v := .int 0) B 4 5 0 [((ad 0), cM ad (ed 0) mi lo su), ((ed 0), cE (ed 1) (ed 7) (ad 0) en), ((ed 1), cA (ed 2) al4), ((ed 2), .inl (g.2.2.1, 10, .inr (.inr (.inr (.inr (vq ed)))))), ((ed 3), cV (upd (upd (upd (vf 0) 0 0) 1 0) 10 (-1))), ((ed 4), cV (upd (vf 1) 0 0)), ((ed 5), cV (vf 2)), ((ed 6), cV (vf 3))] in_X5 tyX5 tyX5_ok nmX5 rfl q292 rfl (Nat.le_of_ble_eq_true rfl) (fun _ h9 => h9) rfl rfl rfl rfl (Nat.le_of_ble_eq_true rfl) rfl dX1_hush_32 ?_
  refine g_aload_n B 3 0 dX1_hush_35 rfl rfl ?_
  refine g_iconst (v := 0) B dX1_hush_36 kc_0 ?_
  refine g_putN (C := RX5) (T := TX5) (N := 11) (ty := .int) (v := .int 0) B 4 5 1 [((ad 0), cM ad (ed 0) mi lo su), ((ed 0), cE (ed 1) (ed 7) (ad 0) en), ((ed 1), cA (ed 2) al4), ((ed 2), .inl (g.2.2.1, 10, .inr (.inr (.inr (.inr (vq ed)))))), ((ed 3), cV (upd (upd (upd (vf 0) 0 0) 1 0) 10 (-1))), ((ed 4), cV (upd (upd (vf 1) 0 0) 1 0)), ((ed 5), cV (vf 2)), ((ed 6), cV (vf 3))] in_X5 tyX5 tyX5_ok nmX5 rfl q295 rfl (Nat.le_of_ble_eq_true rfl) (fun _ h9 => h9) rfl rfl rfl rfl (Nat.le_of_ble_eq_true rfl) rfl dX1_hush_37 ?_
  refine g_aload_n B 3 0 dX1_hush_40 rfl rfl ?_
  refine g_iconst (v := (-1)) B dX1_hush_41 kc_m1 ?_
  refine g_putN (C := RX5) (T := TX5) (N := 11) (ty := .int) (v := .int (-1)) B 4 5 10 [((ad 0), cM ad (ed 0) mi lo su), ((ed 0), cE (ed 1) (ed 7) (ad 0) en), ((ed 1), cA (ed 2) al4), ((ed 2), .inl (g.2.2.1, 10, .inr (.inr (.inr (.inr (vq ed)))))), ((ed 3), cV (upd (upd (upd (vf 0) 0 0) 1 0) 10 (-1))), ((ed 4), cV (upd (upd (upd (vf 1) 0 0) 1 0) 10 (-1))), ((ed 5), cV (vf 2)), ((ed 6), cV (vf 3))] in_X5 tyX5 tyX5_ok nmX5 rfl q318 rfl (Nat.le_of_ble_eq_true rfl) (fun _ h9 => h9) rfl rfl rfl rfl (Nat.le_of_ble_eq_true rfl) rfl dX1_hush_42 ?_
  refine g_iinc B 1 2 [(2, .int 2), (3, .ref (ed 4)), (1, .int r_1), (0, .ref (ad 0))] dX1_hush_45 rfl (by decide) (Nat.le_of_ble_eq_true rfl) rfl ?_
  refine g_goto (tgt := 10) B dX1_hush_48 (by decide) ?_
  refine g_iload_n B 2 0 dX1_hush_10 rfl rfl ?_
  refine g_iconst (v := 4) B dX1_hush_11 kc_4 ?_
  refine g_icmp_ge_F (tgt := 51) B dX1_hush_12 (by decide) (by decide) ?_
  refine g_aload_n B 0 3 dX1_hush_15 rfl rfl ?_
  refine g_get (C := RX1) (T := TX1) (N := 17) B 0 0 9 (.ref (ed 0)) in_X1 rfl q359 rfl (Nat.le_of_ble_eq_true rfl) (fun _ h9 => h9) rfl dX1_hush_16 ?_
  refine g_getN (C := RX2) (T := TX2) (N := 12) B 1 1 0 (.ref (ed 1)) in_X2 rfl q93 rfl (Nat.le_of_ble_eq_true rfl) (fun _ h9 => h9) rfl dX1_hush_19 ?_
  refine g_iload_n B 2 0 dX1_hush_22 rfl rfl ?_
  refine g_cuV_q (C := RJ2) (T := TJ2) (N := 3) (As := [.int 2]) B (m_J2_get l hst g (ed 1) (ed 2) al4 10 (vq ed) 2 2 (ed 5) (by decide) (by decide) (by decide) (vpc rfl) rfl) 7 0 rfl rfl [2, 3] [] (lw_V q429 q411 q412 q29 q413) nvJ2_get rfl rfl rfl rfl (Nat.le_of_ble_eq_true rfl) dX1_hush_23 ⟨Nat.le_of_ble_eq_true rfl, Nat.le_of_ble_eq_true rfl⟩ ⟨Nat.le_of_ble_eq_true rfl, Nat.le_of_ble_eq_true rfl⟩ (fun r_4 ur_4 hr_4 => ?_)
  obtain rfl : some (ed 5) = r_4 := (hr_4).symm
  refine g_eqs (st' := [.ref (ed 5)]) rfl ?_
  refine g_cast (C := RX5) (T := TX5) (N := 11) B 4 6 q284 rfl rfl dX1_hush_26 ?_
  refine g_astore_n B 3 [(3, .ref (ed 5)), (2, .int 2), (1, .int r_1), (0, .ref (ad 0))] dX1_hush_29 rfl (Nat.le_of_ble_eq_true rfl) rfl ?_
  refine g_aload_n B 3 0 dX1_hush_30 rfl rfl ?_
  refine g_iconst (v := 0) B dX1_hush_31 kc_0 ?_
  refine g_putN (C := RX5) (T := TX5) (N := 11) (ty := .int) (v := .int 0) B 4 6 0 [((ad 0), cM ad (ed 0) mi lo su), ((ed 0), cE (ed 1) (ed 7) (ad 0) en), ((ed 1), cA (ed 2) al4), ((ed 2), .inl (g.2.2.1, 10, .inr (.inr (.inr (.inr (vq ed)))))), ((ed 3), cV (upd (upd (upd (vf 0) 0 0) 1 0) 10 (-1))), ((ed 4), cV (upd (upd (upd (vf 1) 0 0) 1 0) 10 (-1))), ((ed 5), cV (upd (vf 2) 0 0)), ((ed 6), cV (vf 3))] in_X5 tyX5 tyX5_ok nmX5 rfl q292 rfl (Nat.le_of_ble_eq_true rfl) (fun _ h9 => h9) rfl rfl rfl rfl (Nat.le_of_ble_eq_true rfl) rfl dX1_hush_32 ?_
  refine g_aload_n B 3 0 dX1_hush_35 rfl rfl ?_
  refine g_iconst (v := 0) B dX1_hush_36 kc_0 ?_
  refine g_putN (C := RX5) (T := TX5) (N := 11) (ty := .int) (v := .int 0) B 4 6 1 [((ad 0), cM ad (ed 0) mi lo su), ((ed 0), cE (ed 1) (ed 7) (ad 0) en), ((ed 1), cA (ed 2) al4), ((ed 2), .inl (g.2.2.1, 10, .inr (.inr (.inr (.inr (vq ed)))))), ((ed 3), cV (upd (upd (upd (vf 0) 0 0) 1 0) 10 (-1))), ((ed 4), cV (upd (upd (upd (vf 1) 0 0) 1 0) 10 (-1))), ((ed 5), cV (upd (upd (vf 2) 0 0) 1 0)), ((ed 6), cV (vf 3))] in_X5 tyX5 tyX5_ok nmX5 rfl q295 rfl (Nat.le_of_ble_eq_true rfl) (fun _ h9 => h9) rfl rfl rfl rfl (Nat.le_of_ble_eq_true rfl) rfl dX1_hush_37 ?_
  refine g_aload_n B 3 0 dX1_hush_40 rfl rfl ?_
  refine g_iconst (v := (-1)) B dX1_hush_41 kc_m1 ?_
  refine g_putN (C := RX5) (T := TX5) (N := 11) (ty := .int) (v := .int (-1)) B 4 6 10 [((ad 0), cM ad (ed 0) mi lo su), ((ed 0), cE (ed 1) (ed 7) (ad 0) en), ((ed 1), cA (ed 2) al4), ((ed 2), .inl (g.2.2.1, 10, .inr (.inr (.inr (.inr (vq ed)))))), ((ed 3), cV (upd (upd (upd (vf 0) 0 0) 1 0) 10 (-1))), ((ed 4), cV (upd (upd (upd (vf 1) 0 0) 1 0) 10 (-1))), ((ed 5), cV (upd (upd (upd (vf 2) 0 0) 1 0) 10 (-1))), ((ed 6), cV (vf 3))] in_X5 tyX5 tyX5_ok nmX5 rfl q318 rfl (Nat.le_of_ble_eq_true rfl) (fun _ h9 => h9) rfl rfl rfl rfl (Nat.le_of_ble_eq_true rfl) rfl dX1_hush_42 ?_
  refine g_iinc B 1 3 [(2, .int 3), (3, .ref (ed 5)), (1, .int r_1), (0, .ref (ad 0))] dX1_hush_45 rfl (by decide) (Nat.le_of_ble_eq_true rfl) rfl ?_
  refine g_goto (tgt := 10) B dX1_hush_48 (by decide) ?_
  refine g_iload_n B 2 0 dX1_hush_10 rfl rfl ?_
  refine g_iconst (v := 4) B dX1_hush_11 kc_4 ?_
  refine g_icmp_ge_F (tgt := 51) B dX1_hush_12 (by decide) (by decide) ?_
  refine g_aload_n B 0 3 dX1_hush_15 rfl rfl ?_
  refine g_get (C := RX1) (T := TX1) (N := 17) B 0 0 9 (.ref (ed 0)) in_X1 rfl q359 rfl (Nat.le_of_ble_eq_true rfl) (fun _ h9 => h9) rfl dX1_hush_16 ?_
  refine g_getN (C := RX2) (T := TX2) (N := 12) B 1 1 0 (.ref (ed 1)) in_X2 rfl q93 rfl (Nat.le_of_ble_eq_true rfl) (fun _ h9 => h9) rfl dX1_hush_19 ?_
  refine g_iload_n B 2 0 dX1_hush_22 rfl rfl ?_
  refine g_cuV_q (C := RJ2) (T := TJ2) (N := 3) (As := [.int 3]) B (m_J2_get l hst g (ed 1) (ed 2) al4 10 (vq ed) 3 3 (ed 6) (by decide) (by decide) (by decide) (vpc rfl) rfl) 7 0 rfl rfl [2, 3] [] (lw_V q429 q411 q412 q29 q413) nvJ2_get rfl rfl rfl rfl (Nat.le_of_ble_eq_true rfl) dX1_hush_23 ⟨Nat.le_of_ble_eq_true rfl, Nat.le_of_ble_eq_true rfl⟩ ⟨Nat.le_of_ble_eq_true rfl, Nat.le_of_ble_eq_true rfl⟩ (fun r_5 ur_5 hr_5 => ?_)
  obtain rfl : some (ed 6) = r_5 := (hr_5).symm
  refine g_eqs (st' := [.ref (ed 6)]) rfl ?_
  refine g_cast (C := RX5) (T := TX5) (N := 11) B 4 7 q284 rfl rfl dX1_hush_26 ?_
  refine g_astore_n B 3 [(3, .ref (ed 6)), (2, .int 3), (1, .int r_1), (0, .ref (ad 0))] dX1_hush_29 rfl (Nat.le_of_ble_eq_true rfl) rfl ?_
  refine g_aload_n B 3 0 dX1_hush_30 rfl rfl ?_
  refine g_iconst (v := 0) B dX1_hush_31 kc_0 ?_
  refine g_putN (C := RX5) (T := TX5) (N := 11) (ty := .int) (v := .int 0) B 4 7 0 [((ad 0), cM ad (ed 0) mi lo su), ((ed 0), cE (ed 1) (ed 7) (ad 0) en), ((ed 1), cA (ed 2) al4), ((ed 2), .inl (g.2.2.1, 10, .inr (.inr (.inr (.inr (vq ed)))))), ((ed 3), cV (upd (upd (upd (vf 0) 0 0) 1 0) 10 (-1))), ((ed 4), cV (upd (upd (upd (vf 1) 0 0) 1 0) 10 (-1))), ((ed 5), cV (upd (upd (upd (vf 2) 0 0) 1 0) 10 (-1))), ((ed 6), cV (upd (vf 3) 0 0))] in_X5 tyX5 tyX5_ok nmX5 rfl q292 rfl (Nat.le_of_ble_eq_true rfl) (fun _ h9 => h9) rfl rfl rfl rfl (Nat.le_of_ble_eq_true rfl) rfl dX1_hush_32 ?_
  refine g_aload_n B 3 0 dX1_hush_35 rfl rfl ?_
  refine g_iconst (v := 0) B dX1_hush_36 kc_0 ?_
  refine g_putN (C := RX5) (T := TX5) (N := 11) (ty := .int) (v := .int 0) B 4 7 1 [((ad 0), cM ad (ed 0) mi lo su), ((ed 0), cE (ed 1) (ed 7) (ad 0) en), ((ed 1), cA (ed 2) al4), ((ed 2), .inl (g.2.2.1, 10, .inr (.inr (.inr (.inr (vq ed)))))), ((ed 3), cV (upd (upd (upd (vf 0) 0 0) 1 0) 10 (-1))), ((ed 4), cV (upd (upd (upd (vf 1) 0 0) 1 0) 10 (-1))), ((ed 5), cV (upd (upd (upd (vf 2) 0 0) 1 0) 10 (-1))), ((ed 6), cV (upd (upd (vf 3) 0 0) 1 0))] in_X5 tyX5 tyX5_ok nmX5 rfl q295 rfl (Nat.le_of_ble_eq_true rfl) (fun _ h9 => h9) rfl rfl rfl rfl (Nat.le_of_ble_eq_true rfl) rfl dX1_hush_37 ?_
  refine g_aload_n B 3 0 dX1_hush_40 rfl rfl ?_
  refine g_iconst (v := (-1)) B dX1_hush_41 kc_m1 ?_
  refine g_putN (C := RX5) (T := TX5) (N := 11) (ty := .int) (v := .int (-1)) B 4 7 10 [((ad 0), cM ad (ed 0) mi lo su), ((ed 0), cE (ed 1) (ed 7) (ad 0) en), ((ed 1), cA (ed 2) al4), ((ed 2), .inl (g.2.2.1, 10, .inr (.inr (.inr (.inr (vq ed)))))), ((ed 3), cV (upd (upd (upd (vf 0) 0 0) 1 0) 10 (-1))), ((ed 4), cV (upd (upd (upd (vf 1) 0 0) 1 0) 10 (-1))), ((ed 5), cV (upd (upd (upd (vf 2) 0 0) 1 0) 10 (-1))), ((ed 6), cV (upd (upd (upd (vf 3) 0 0) 1 0) 10 (-1)))] in_X5 tyX5 tyX5_ok nmX5 rfl q318 rfl (Nat.le_of_ble_eq_true rfl) (fun _ h9 => h9) rfl rfl rfl rfl (Nat.le_of_ble_eq_true rfl) rfl dX1_hush_42 ?_
  refine g_iinc B 1 4 [(2, .int 4), (3, .ref (ed 6)), (1, .int r_1), (0, .ref (ad 0))] dX1_hush_45 rfl (by decide) (Nat.le_of_ble_eq_true rfl) rfl ?_
  refine g_goto (tgt := 10) B dX1_hush_48 (by decide) ?_
  refine g_iload_n B 2 0 dX1_hush_10 rfl rfl ?_
  refine g_iconst (v := 4) B dX1_hush_11 kc_4 ?_
  refine g_icmp_ge_T (tgt := 51) B dX1_hush_12 (by decide) (by decide) ?_
  refine g_iload_n B 1 2 dX1_hush_51 rfl rfl ?_
  subst hr_1
  exact g_iret B hr dX1_hush_52 (Nat.le_of_ble_eq_true rfl) (Nat.le_of_ble_eq_true rfl) () rfl [0, 1, 2, 3, 4, 5, 6, 7] rfl rfl
