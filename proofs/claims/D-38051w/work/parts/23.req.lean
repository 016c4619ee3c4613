/-! contracts: what is asked of arguments -/
set_option maxRecDepth 100000

theorem nsX1_require : yX1_require.cls ≠ "java/lang/invoke/MethodHandle" ∧ yX1_require.cls ≠ "java/lang/invoke/VarHandle" ∧ (parseMethodDescriptor yX1_require.desc).map (fun d => d.parameters.length) = some 1 := by decide +kernel
theorem nsX1_requireIndex : yX1_requireIndex.cls ≠ "java/lang/invoke/MethodHandle" ∧ yX1_requireIndex.cls ≠ "java/lang/invoke/VarHandle" ∧ (parseMethodDescriptor yX1_requireIndex.desc).map (fun d => d.parameters.length) = some 2 := by decide +kernel
set_option maxHeartbeats 4000000 in
set_option maxRecDepth 100000 in
theorem m_X1_require (l : Launch) (hst : l.stackTraces = false) (g : gG) (b : Int32) : gXv l yX1_require cX1_require 1 6 89 1 6 g [] [.int b] (fun (_ : Unit) => (rq_k b) = 0) (fun _ : Unit => []) (fun E : String => E = eIA ∧ (rq_k b) = 1) := by
  intro sz
  refine g_xent (by decide) hst [(0, .int b)] (Nat.le_of_ble_eq_true rfl) rfl ?_
  intro p e s m below meth c B hr hnm hsz hT
  have B : gB p l s m ([.int b] : List Value).toArray meth c RX1 cX1_require 1 g (va_A [] sz) := B
  have hA9 : (va_A [] sz) = va_A [] s.heap.size := by rw [hsz]
  subst hsz
  refine g_iload_n B 0 0 dX1_require_0 rfl rfl ?_
  refine g_if_ne (tgt := 12) B dX1_require_1 (by decide) (fun c_1 => ?_) (fun c_1 => ?_)
  · skip
    exact g_xvret B hr dX1_require_12 (Nat.le_of_ble_eq_true rfl) (Nat.le_of_ble_eq_true rfl) () (by first | (simp only [rq_k, if_neg c_1]; done) | (simp only [rq_k, if_neg c_1]; rfl) | rfl) [] rfl rfl
  · skip
    exact g_throw0 (names := ["java/lang/RuntimeException", "java/lang/Exception"]) B hT hA9 (by decide) (by decide) q586 q46 thIA_in thIA_ok dX1_require_4 dX1_require_7 dX1_require_8 dX1_require_11 (Nat.le_of_ble_eq_true rfl) (Nat.le_of_ble_eq_true rfl) (Nat.le_of_ble_eq_true rfl) (Nat.le_of_ble_eq_true rfl) (Nat.le_of_ble_eq_true rfl) (Nat.le_of_ble_eq_true rfl) (⟨rfl, (by first | (simp only [rq_k, if_pos c_1]; done) | (simp only [rq_k, if_pos c_1]; rfl) | rfl)⟩) [] rfl rfl

set_option maxHeartbeats 4000000 in
set_option maxRecDepth 100000 in
theorem m_X1_requireIndex (l : Launch) (hst : l.stackTraces = false) (g : gG) (i n : Int32) : gXv l yX1_requireIndex cX1_requireIndex 2 6 89 1 6 g [] [.int i, .int n] (fun (_ : Unit) => (ix_k i n) = 0) (fun _ : Unit => []) (fun E : String => E = eIO ∧ (ix_k i n) = 1) := by
  intro sz
  refine g_xent (by decide) hst [(0, .int i), (1, .int n)] (Nat.le_of_ble_eq_true rfl) rfl ?_
  intro p e s m below meth c B hr hnm hsz hT
  have B : gB p l s m ([.int i, .int n] : List Value).toArray meth c RX1 cX1_requireIndex 2 g (va_A [] sz) := B
  have hA9 : (va_A [] sz) = va_A [] s.heap.size := by rw [hsz]
  subst hsz
  refine g_iload_n B 0 0 dX1_requireIndex_0 rfl rfl ?_
  refine g_if_lt (tgt := 9) B dX1_requireIndex_1 (by decide) (fun c_1 => ?_) (fun c_1 => ?_)
  · skip
    exact g_throw0 (names := ["java/lang/RuntimeException", "java/lang/Exception"]) B hT hA9 (by decide) (by decide) q672 q43 thIO_in thIO_ok dX1_requireIndex_9 dX1_requireIndex_12 dX1_requireIndex_13 dX1_requireIndex_16 (Nat.le_of_ble_eq_true rfl) (Nat.le_of_ble_eq_true rfl) (Nat.le_of_ble_eq_true rfl) (Nat.le_of_ble_eq_true rfl) (Nat.le_of_ble_eq_true rfl) (Nat.le_of_ble_eq_true rfl) (⟨rfl, (by first | (simp only [ix_k, if_pos c_1]; done) | (simp only [ix_k, if_pos c_1]; rfl) | rfl)⟩) [] rfl rfl
  · skip
    refine g_iload_n B 0 0 dX1_requireIndex_4 rfl rfl ?_
    refine g_iload_n B 1 1 dX1_requireIndex_5 rfl rfl ?_
    refine g_icmp_lt (tgt := 17) B dX1_requireIndex_6 (by decide) (fun c_2 => ?_) (fun c_2 => ?_)
    · skip
      exact g_xvret B hr dX1_requireIndex_17 (Nat.le_of_ble_eq_true rfl) (Nat.le_of_ble_eq_true rfl) () (by first | (simp only [ix_k, if_neg c_1, if_pos c_2]; done) | (simp only [ix_k, if_neg c_1, if_pos c_2]; rfl) | rfl) [] rfl rfl
    · skip
      exact g_throw0 (names := ["java/lang/RuntimeException", "java/lang/Exception"]) B hT hA9 (by decide) (by decide) q672 q43 thIO_in thIO_ok dX1_requireIndex_9 dX1_requireIndex_12 dX1_requireIndex_13 dX1_requireIndex_16 (Nat.le_of_ble_eq_true rfl) (Nat.le_of_ble_eq_true rfl) (Nat.le_of_ble_eq_true rfl) (Nat.le_of_ble_eq_true rfl) (Nat.le_of_ble_eq_true rfl) (Nat.le_of_ble_eq_true rfl) (⟨rfl, (by first | (simp only [ix_k, if_neg c_1, if_neg c_2]; done) | (simp only [ix_k, if_neg c_1, if_neg c_2]; rfl) | rfl)⟩) [] rfl rfl

set_option maxHeartbeats 4000000 in
set_option maxRecDepth 100000 in
theorem m_X1_requireFrom (l : Launch) (hst : l.stackTraces = false) (g : gG) (lo hi v : Int32) : gXv l yX1_requireFrom cX1_requireFrom 3 7 109 1 6 g [] [.int lo, .int hi, .int v] (fun (_ : Unit) => (fr_k lo hi v) = 0) (fun _ : Unit => []) (fun E : String => E = eIA ∧ (fr_k lo hi v) = 1) := by
  intro sz
  refine g_xent (by decide) hst [(0, .int lo), (1, .int hi), (2, .int v)] (Nat.le_of_ble_eq_true rfl) rfl ?_
  intro p e s m below meth c B hr hnm hsz hT
  have B : gB p l s m ([.int lo, .int hi, .int v] : List Value).toArray meth c RX1 cX1_requireFrom 3 g (va_A [] sz) := B
  have hA9 : (va_A [] sz) = va_A [] s.heap.size := by rw [hsz]
  subst hsz
  refine g_iload_n B 2 2 dX1_requireFrom_0 rfl rfl ?_
  refine g_iload_n B 0 0 dX1_requireFrom_1 rfl rfl ?_
  refine g_icmp_lt (tgt := 14) B dX1_requireFrom_2 (by decide) (fun c_1 => ?_) (fun c_1 => ?_)
  · skip
    refine g_iconst (v := 0) B dX1_requireFrom_14 kc_0 ?_
    refine g_xuS_v (As := [.int 0]) B (m_X1_require l hst g 0) [] [] (lw_S q583 q584 q26 q585) nsX1_require rfl rfl rfl rfl (Nat.le_of_ble_eq_true rfl) dX1_requireFrom_15 ⟨Nat.le_of_ble_eq_true rfl, Nat.le_of_ble_eq_true rfl⟩ ⟨Nat.le_of_ble_eq_true rfl, Nat.le_of_ble_eq_true rfl⟩ (fun E hE => ?_) (fun ur_2 hr_2 => ?_)
    · skip
      have hK9 : ¬ (rq_k 0) = 0 := by rw [hE.2]; decide
      exact g_xout B hT hA9 (Nat.le_of_ble_eq_true rfl) (Nat.le_of_ble_eq_true rfl) ⟨hE.1, (by first | exact hE.2 | (simp only [fr_k, if_pos c_1, if_neg hK9]; done) | (simp only [fr_k, if_pos c_1, if_neg hK9]; rfl) | rfl)⟩ [] rfl rfl
    have kr_2 : (rq_k 0) = 0 := hr_2
    exact absurd kr_2 (by decide)
  · skip
    refine g_iload_n B 2 2 dX1_requireFrom_5 rfl rfl ?_
    refine g_iload_n B 1 1 dX1_requireFrom_6 rfl rfl ?_
    refine g_icmp_gt (tgt := 14) B dX1_requireFrom_7 (by decide) (fun c_3 => ?_) (fun c_3 => ?_)
    · skip
      refine g_iconst (v := 0) B dX1_requireFrom_14 kc_0 ?_
      refine g_xuS_v (As := [.int 0]) B (m_X1_require l hst g 0) [] [] (lw_S q583 q584 q26 q585) nsX1_require rfl rfl rfl rfl (Nat.le_of_ble_eq_true rfl) dX1_requireFrom_15 ⟨Nat.le_of_ble_eq_true rfl, Nat.le_of_ble_eq_true rfl⟩ ⟨Nat.le_of_ble_eq_true rfl, Nat.le_of_ble_eq_true rfl⟩ (fun E hE => ?_) (fun ur_4 hr_4 => ?_)
      · skip
        have hK9 : ¬ (rq_k 0) = 0 := by rw [hE.2]; decide
        exact g_xout B hT hA9 (Nat.le_of_ble_eq_true rfl) (Nat.le_of_ble_eq_true rfl) ⟨hE.1, (by first | exact hE.2 | (simp only [fr_k, if_neg c_1, if_pos c_3, if_neg hK9]; done) | (simp only [fr_k, if_neg c_1, if_pos c_3, if_neg hK9]; rfl) | rfl)⟩ [] rfl rfl
      have kr_4 : (rq_k 0) = 0 := hr_4
      exact absurd kr_4 (by decide)
    · skip
      refine g_iconst (v := 1) B dX1_requireFrom_10 kc_1 ?_
      refine g_goto (tgt := 15) B dX1_requireFrom_11 (by decide) ?_
      refine g_xuS_v (As := [.int 1]) B (m_X1_require l hst g 1) [] [] (lw_S q583 q584 q26 q585) nsX1_require rfl rfl rfl rfl (Nat.le_of_ble_eq_true rfl) dX1_requireFrom_15 ⟨Nat.le_of_ble_eq_true rfl, Nat.le_of_ble_eq_true rfl⟩ ⟨Nat.le_of_ble_eq_true rfl, Nat.le_of_ble_eq_true rfl⟩ (fun E hE => ?_) (fun ur_5 hr_5 => ?_)
      · skip
        exact absurd hE.2 (by decide)
      have kr_5 : (rq_k 1) = 0 := hr_5
      exact g_xvret B hr dX1_requireFrom_18 (Nat.le_of_ble_eq_true rfl) (Nat.le_of_ble_eq_true rfl) () (by first | (simp only [fr_k, if_neg c_1, if_neg c_3, if_pos kr_5]; done) | (simp only [fr_k, if_neg c_1, if_neg c_3, if_pos kr_5]; rfl) | rfl) [] rfl rfl

set_option maxHeartbeats 4000000 in
set_option maxRecDepth 100000 in
theorem m_X1_instrument (l : Launch) (hst : l.stackTraces = false) (g : gG) (ad : Nat → Nat) (e0 : Nat) (mi : Nat → Int32) (lo su : Int64) (i : Int32) (k : Nat) (hb : ix_k i 4 = 0) (hk : i.toNatClampNeg = k) (f : Nat → Int32) : gMq l yX1_instrument cX1_instrument 2 (.object "Melodeon$Instrument") 7 110 1 6 g [((ad 0), cM ad e0 mi lo su), ((ad 2), cA (ad 3) al4), ((ad 3), .inl (g.2.2.1, 10, .inr (.inr (.inr (.inr (iq ad)))))), ((ad (4 + k)), cI f)] [.ref (ad 0), .int i] (fun (r : Option Nat) (_ : Unit) => r = some (ad (4 + k))) (fun _ : Unit => [((ad 0), cM ad e0 mi lo su), ((ad 2), cA (ad 3) al4), ((ad 3), .inl (g.2.2.1, 10, .inr (.inr (.inr (.inr (iq ad)))))), ((ad (4 + k)), cI f)]) := by
  intro sz
  refine g_ent (by decide) hst [(0, .ref (ad 0)), (1, .int i)] (Nat.le_of_ble_eq_true rfl) rfl ?_
  intro p e s m below meth c B hr hnm hsz
  have B : gB p l s m ([.ref (ad 0), .int i] : List Value).toArray meth c RX1 cX1_instrument 2 g (va_A [((ad 0), cM ad e0 mi lo su), ((ad 2), cA (ad 3) al4), ((ad 3), .inl (g.2.2.1, 10, .inr (.inr (.inr (.inr (iq ad)))))), ((ad (4 + k)), cI f)] sz) := B
  refine g_iload_n B 1 1 dX1_instrument_0 rfl rfl ?_
  refine g_iconst (v := 4) B dX1_instrument_1 kc_4 ?_
  refine g_xuS_v (As := [.int i, .int 4]) B (m_X1_requireIndex l hst g i 4) [] [] (lw_S q669 q670 q26 q671) nsX1_requireIndex rfl rfl rfl rfl (Nat.le_of_ble_eq_true rfl) dX1_instrument_2 ⟨Nat.le_of_ble_eq_true rfl, Nat.le_of_ble_eq_true rfl⟩ ⟨Nat.le_of_ble_eq_true rfl, Nat.le_of_ble_eq_true rfl⟩ (fun E hE => ?_) (fun ur_1 hr_1 => ?_)
  · skip
    exact absurd hE.2 (by rw [hb]; decide)
  have kr_1 : (ix_k i 4) = 0 := hr_1
  refine g_aload_n B 0 0 dX1_instrument_5 rfl rfl ?_
  refine g_get (C := RX1) (T := TX1) (N := 17) B 0 0 1 (.ref (ad 2)) in_X1 rfl q344 rfl (Nat.le_of_ble_eq_true rfl) (fun _ h9 => h9) rfl dX1_instrument_6 ?_
  refine g_iload_n B 1 1 dX1_instrument_9 rfl rfl ?_
  refine g_cuV_q (C := RJ2) (T := TJ2) (N := 3) (As := [.int i]) B (m_J2_get l hst g (ad 2) (ad 3) al4 10 (iq ad) i k (ad (4 + k)) (ix_lo hb) (ix_hi hb) hk (ix_in hb (by decide)) (if_pos (ix_lt hb hk (by decide)))) 7 0 rfl rfl [1, 2] [] (lw_V q429 q411 q412 q29 q413) nvJ2_get rfl rfl rfl rfl (Nat.le_of_ble_eq_true rfl) dX1_instrument_10 ⟨Nat.le_of_ble_eq_true rfl, Nat.le_of_ble_eq_true rfl⟩ ⟨Nat.le_of_ble_eq_true rfl, Nat.le_of_ble_eq_true rfl⟩ (fun r_2 ur_2 hr_2 => ?_)
  obtain rfl : some (ad (4 + k)) = r_2 := (hr_2).symm
  refine g_eqs (st' := [.ref (ad (4 + k))]) rfl ?_
  refine g_cast (C := RX3) (T := TX3) (N := 12) B 2 3 q138 rfl rfl dX1_instrument_13 ?_
  exact g_qret B hr (Or.inl ⟨_, rfl⟩) dX1_instrument_16 (Nat.le_of_ble_eq_true rfl) (Nat.le_of_ble_eq_true rfl) () (by first | (simp only [if_pos kr_1]; done) | (simp only [if_pos kr_1]; rfl) | rfl) [0, 1, 2, 3] rfl rfl

set_option maxHeartbeats 4000000 in
set_option maxRecDepth 100000 in
theorem m_X1_track (l : Launch) (hst : l.stackTraces = false) (g : gG) (ad : Nat → Nat) (e0 : Nat) (mi : Nat → Int32) (lo su : Int64) (i : Int32) (k : Nat) (hb : ix_k i 3 = 0) (hk : i.toNatClampNeg = k) (f : Nat → Int32) : gMq l yX1_track cX1_track 2 (.object "Melodeon$Track") 7 110 1 6 g [((ad 0), cM ad e0 mi lo su), ((ad 8), cA (ad 9) al3), ((ad 9), .inl (g.2.2.1, 10, .inr (.inr (.inr (.inr (tq ad)))))), ((ad (10 + k)), cT (ad (13 + k)) (ad (16 + k)) (ad (19 + k)) f)] [.ref (ad 0), .int i] (fun (r : Option Nat) (_ : Unit) => r = some (ad (10 + k))) (fun _ : Unit => [((ad 0), cM ad e0 mi lo su), ((ad 8), cA (ad 9) al3), ((ad 9), .inl (g.2.2.1, 10, .inr (.inr (.inr (.inr (tq ad)))))), ((ad (10 + k)), cT (ad (13 + k)) (ad (16 + k)) (ad (19 + k)) f)]) := by
  intro sz
  refine g_ent (by decide) hst [(0, .ref (ad 0)), (1, .int i)] (Nat.le_of_ble_eq_true rfl) rfl ?_
  intro p e s m below meth c B hr hnm hsz
  have B : gB p l s m ([.ref (ad 0), .int i] : List Value).toArray meth c RX1 cX1_track 2 g (va_A [((ad 0), cM ad e0 mi lo su), ((ad 8), cA (ad 9) al3), ((ad 9), .inl (g.2.2.1, 10, .inr (.inr (.inr (.inr (tq ad)))))), ((ad (10 + k)), cT (ad (13 + k)) (ad (16 + k)) (ad (19 + k)) f)] sz) := B
  refine g_iload_n B 1 1 dX1_track_0 rfl rfl ?_
  refine g_iconst (v := 3) B dX1_track_1 kc_3 ?_
  refine g_xuS_v (As := [.int i, .int 3]) B (m_X1_requireIndex l hst g i 3) [] [] (lw_S q669 q670 q26 q671) nsX1_requireIndex rfl rfl rfl rfl (Nat.le_of_ble_eq_true rfl) dX1_track_2 ⟨Nat.le_of_ble_eq_true rfl, Nat.le_of_ble_eq_true rfl⟩ ⟨Nat.le_of_ble_eq_true rfl, Nat.le_of_ble_eq_true rfl⟩ (fun E hE => ?_) (fun ur_1 hr_1 => ?_)
  · skip
    exact absurd hE.2 (by rw [hb]; decide)
  have kr_1 : (ix_k i 3) = 0 := hr_1
  refine g_aload_n B 0 0 dX1_track_5 rfl rfl ?_
  refine g_get (C := RX1) (T := TX1) (N := 17) B 0 0 2 (.ref (ad 8)) in_X1 rfl q346 rfl (Nat.le_of_ble_eq_true rfl) (fun _ h9 => h9) rfl dX1_track_6 ?_
  refine g_iload_n B 1 1 dX1_track_9 rfl rfl ?_
  refine g_cuV_q (C := RJ2) (T := TJ2) (N := 3) (As := [.int i]) B (m_J2_get l hst g (ad 8) (ad 9) al3 10 (tq ad) i k (ad (10 + k)) (ix_lo hb) (ix_hi hb) hk (ix_in hb (by decide)) (if_pos (ix_lt hb hk (by decide)))) 7 0 rfl rfl [1, 2] [] (lw_V q429 q411 q412 q29 q413) nvJ2_get rfl rfl rfl rfl (Nat.le_of_ble_eq_true rfl) dX1_track_10 ⟨Nat.le_of_ble_eq_true rfl, Nat.le_of_ble_eq_true rfl⟩ ⟨Nat.le_of_ble_eq_true rfl, Nat.le_of_ble_eq_true rfl⟩ (fun r_2 ur_2 hr_2 => ?_)
  obtain rfl : some (ad (10 + k)) = r_2 := (hr_2).symm
  refine g_eqs (st' := [.ref (ad (10 + k))]) rfl ?_
  refine g_cast (C := RX4) (T := TX4) (N := 4) B 3 3 q258 rfl rfl dX1_track_13 ?_
  exact g_qret B hr (Or.inl ⟨_, rfl⟩) dX1_track_16 (Nat.le_of_ble_eq_true rfl) (Nat.le_of_ble_eq_true rfl) () (by first | (simp only [if_pos kr_1]; done) | (simp only [if_pos kr_1]; rfl) | rfl) [0, 1, 2, 3] rfl rfl

set_option maxHeartbeats 4000000 in
set_option maxRecDepth 100000 in
theorem m_X1_voice (l : Launch) (hst : l.stackTraces = false) (g : gG) (ad ed : Nat → Nat) (mi : Nat → Int32) (lo su : Int64) (en : Nat → Int32) (i : Int32) (k : Nat) (hb : ix_k i 4 = 0) (hk : i.toNatClampNeg = k) (f : Nat → Int32) : gMq l yX1_voice cX1_voice 2 (.object "Melodeon$Voice") 7 110 1 6 g [((ad 0), cM ad (ed 0) mi lo su), ((ed 0), cE (ed 1) (ed 7) (ad 0) en), ((ed 1), cA (ed 2) al4), ((ed 2), .inl (g.2.2.1, 10, .inr (.inr (.inr (.inr (vq ed)))))), ((ed (3 + k)), cV f)] [.ref (ad 0), .int i] (fun (r : Option Nat) (_ : Unit) => r = some (ed (3 + k))) (fun _ : Unit => [((ad 0), cM ad (ed 0) mi lo su), ((ed 0), cE (ed 1) (ed 7) (ad 0) en), ((ed 1), cA (ed 2) al4), ((ed 2), .inl (g.2.2.1, 10, .inr (.inr (.inr (.inr (vq ed)))))), ((ed (3 + k)), cV f)]) := by
  intro sz
  refine g_ent (by decide) hst [(0, .ref (ad 0)), (1, .int i)] (Nat.le_of_ble_eq_true rfl) rfl ?_
  intro p e s m below meth c B hr hnm hsz
  have B : gB p l s m ([.ref (ad 0), .int i] : List Value).toArray meth c RX1 cX1_voice 2 g (va_A [((ad 0), cM ad (ed 0) mi lo su), ((ed 0), cE (ed 1) (ed 7) (ad 0) en), ((ed 1), cA (ed 2) al4), ((ed 2), .inl (g.2.2.1, 10, .inr (.inr (.inr (.inr (vq ed)))))), ((ed (3 + k)), cV f)] sz) := B
  refine g_iload_n B 1 1 dX1_voice_0 rfl rfl ?_
  refine g_iconst (v := 4) B dX1_voice_1 kc_4 ?_
  refine g_xuS_v (As := [.int i, .int 4]) B (m_X1_requireIndex l hst g i 4) [] [] (lw_S q669 q670 q26 q671) nsX1_requireIndex rfl rfl rfl rfl (Nat.le_of_ble_eq_true rfl) dX1_voice_2 ⟨Nat.le_of_ble_eq_true rfl, Nat.le_of_ble_eq_true rfl⟩ ⟨Nat.le_of_ble_eq_true rfl, Nat.le_of_ble_eq_true rfl⟩ (fun E hE => ?_) (fun ur_1 hr_1 => ?_)
  · skip
    exact absurd hE.2 (by rw [hb]; decide)
  have kr_1 : (ix_k i 4) = 0 := hr_1
  refine g_aload_n B 0 0 dX1_voice_5 rfl rfl ?_
  refine g_get (C := RX1) (T := TX1) (N := 17) B 0 0 9 (.ref (ed 0)) in_X1 rfl q359 rfl (Nat.le_of_ble_eq_true rfl) (fun _ h9 => h9) rfl dX1_voice_6 ?_
  refine g_getN (C := RX2) (T := TX2) (N := 12) B 1 1 0 (.ref (ed 1)) in_X2 rfl q93 rfl (Nat.le_of_ble_eq_true rfl) (fun _ h9 => h9) rfl dX1_voice_9 ?_
  refine g_iload_n B 1 1 dX1_voice_12 rfl rfl ?_
  refine g_cuV_q (C := RJ2) (T := TJ2) (N := 3) (As := [.int i]) B (m_J2_get l hst g (ed 1) (ed 2) al4 10 (vq ed) i k (ed (3 + k)) (ix_lo hb) (ix_hi hb) hk (ix_in hb (by decide)) (if_pos (ix_lt hb hk (by decide)))) 7 0 rfl rfl [2, 3] [] (lw_V q429 q411 q412 q29 q413) nvJ2_get rfl rfl rfl rfl (Nat.le_of_ble_eq_true rfl) dX1_voice_13 ⟨Nat.le_of_ble_eq_true rfl, Nat.le_of_ble_eq_true rfl⟩ ⟨Nat.le_of_ble_eq_true rfl, Nat.le_of_ble_eq_true rfl⟩ (fun r_2 ur_2 hr_2 => ?_)
  obtain rfl : some (ed (3 + k)) = r_2 := (hr_2).symm
  refine g_eqs (st' := [.ref (ed (3 + k))]) rfl ?_
  refine g_cast (C := RX5) (T := TX5) (N := 11) B 4 4 q284 rfl rfl dX1_voice_16 ?_
  exact g_qret B hr (Or.inl ⟨_, rfl⟩) dX1_voice_19 (Nat.le_of_ble_eq_true rfl) (Nat.le_of_ble_eq_true rfl) () (by first | (simp only [if_pos kr_1]; done) | (simp only [if_pos kr_1]; rfl) | rfl) [0, 1, 2, 3, 4] rfl rfl

set_option maxHeartbeats 4000000 in
set_option maxRecDepth 100000 in
theorem m_X1_instrument_b (l : Launch) (hst : l.stackTraces = false) (g : gG) (ad : Nat → Nat) (e0 : Nat) (mi : Nat → Int32) (lo su : Int64) (i : Int32) (hb : ¬ ix_k i 4 = 0) : gXr l yX1_instrument cX1_instrument 2 (.object "Melodeon$Instrument") 7 110 1 6 g [((ad 0), cM ad e0 mi lo su)] [.ref (ad 0), .int i] (fun (r : Option Nat) (_ : Unit) => (ix_k i 4) = 0 ∧ False) (fun _ : Unit => [((ad 0), cM ad e0 mi lo su)]) (fun E : String => E = eIO ∧ (ix_k i 4) = 1) := by
  intro sz
  refine g_xent (by decide) hst [(0, .ref (ad 0)), (1, .int i)] (Nat.le_of_ble_eq_true rfl) rfl ?_
  intro p e s m below meth c B hr hnm hsz hT
  have B : gB p l s m ([.ref (ad 0), .int i] : List Value).toArray meth c RX1 cX1_instrument 2 g (va_A [((ad 0), cM ad e0 mi lo su)] sz) := B
  have hA9 : (va_A [((ad 0), cM ad e0 mi lo su)] sz) = va_A [((ad 0), cM ad e0 mi lo su)] s.heap.size := by rw [hsz]
  subst hsz
  refine g_iload_n B 1 1 dX1_instrument_0 rfl rfl ?_
  refine g_iconst (v := 4) B dX1_instrument_1 kc_4 ?_
  refine g_xuS_v (As := [.int i, .int 4]) B (m_X1_requireIndex l hst g i 4) [] [] (lw_S q669 q670 q26 q671) nsX1_requireIndex rfl rfl rfl rfl (Nat.le_of_ble_eq_true rfl) dX1_instrument_2 ⟨Nat.le_of_ble_eq_true rfl, Nat.le_of_ble_eq_true rfl⟩ ⟨Nat.le_of_ble_eq_true rfl, Nat.le_of_ble_eq_true rfl⟩ (fun E hE => ?_) (fun ur_1 hr_1 => ?_)
  · skip
    have hK9 : ¬ (ix_k i 4) = 0 := by rw [hE.2]; decide
    exact g_xout B hT hA9 (Nat.le_of_ble_eq_true rfl) (Nat.le_of_ble_eq_true rfl) ⟨hE.1, (by first | exact hE.2 | (simp only [if_neg hK9]; done) | (simp only [if_neg hK9]; rfl) | rfl)⟩ [0] rfl rfl
  have kr_1 : (ix_k i 4) = 0 := hr_1
  exact absurd kr_1 hb

set_option maxHeartbeats 4000000 in
set_option maxRecDepth 100000 in
theorem m_X1_track_b (l : Launch) (hst : l.stackTraces = false) (g : gG) (ad : Nat → Nat) (e0 : Nat) (mi : Nat → Int32) (lo su : Int64) (i : Int32) (hb : ¬ ix_k i 3 = 0) : gXr l yX1_track cX1_track 2 (.object "Melodeon$Track") 7 110 1 6 g [((ad 0), cM ad e0 mi lo su)] [.ref (ad 0), .int i] (fun (r : Option Nat) (_ : Unit) => (ix_k i 3) = 0 ∧ False) (fun _ : Unit => [((ad 0), cM ad e0 mi lo su)]) (fun E : String => E = eIO ∧ (ix_k i 3) = 1) := by
  intro sz
  refine g_xent (by decide) hst [(0, .ref (ad 0)), (1, .int i)] (Nat.le_of_ble_eq_true rfl) rfl ?_
  intro p e s m below meth c B hr hnm hsz hT
  have B : gB p l s m ([.ref (ad 0), .int i] : List Value).toArray meth c RX1 cX1_track 2 g (va_A [((ad 0), cM ad e0 mi lo su)] sz) := B
  have hA9 : (va_A [((ad 0), cM ad e0 mi lo su)] sz) = va_A [((ad 0), cM ad e0 mi lo su)] s.heap.size := by rw [hsz]
  subst hsz
  refine g_iload_n B 1 1 dX1_track_0 rfl rfl ?_
  refine g_iconst (v := 3) B dX1_track_1 kc_3 ?_
  refine g_xuS_v (As := [.int i, .int 3]) B (m_X1_requireIndex l hst g i 3) [] [] (lw_S q669 q670 q26 q671) nsX1_requireIndex rfl rfl rfl rfl (Nat.le_of_ble_eq_true rfl) dX1_track_2 ⟨Nat.le_of_ble_eq_true rfl, Nat.le_of_ble_eq_true rfl⟩ ⟨Nat.le_of_ble_eq_true rfl, Nat.le_of_ble_eq_true rfl⟩ (fun E hE => ?_) (fun ur_1 hr_1 => ?_)
  · skip
    have hK9 : ¬ (ix_k i 3) = 0 := by rw [hE.2]; decide
    exact g_xout B hT hA9 (Nat.le_of_ble_eq_true rfl) (Nat.le_of_ble_eq_true rfl) ⟨hE.1, (by first | exact hE.2 | (simp only [if_neg hK9]; done) | (simp only [if_neg hK9]; rfl) | rfl)⟩ [0] rfl rfl
  have kr_1 : (ix_k i 3) = 0 := hr_1
  exact absurd kr_1 hb

set_option maxHeartbeats 4000000 in
set_option maxRecDepth 100000 in
theorem m_X1_voice_b (l : Launch) (hst : l.stackTraces = false) (g : gG) (ad : Nat → Nat) (e0 : Nat) (mi : Nat → Int32) (lo su : Int64) (i : Int32) (hb : ¬ ix_k i 4 = 0) : gXr l yX1_voice cX1_voice 2 (.object "Melodeon$Voice") 7 110 1 6 g [((ad 0), cM ad e0 mi lo su)] [.ref (ad 0), .int i] (fun (r : Option Nat) (_ : Unit) => (ix_k i 4) = 0 ∧ False) (fun _ : Unit => [((ad 0), cM ad e0 mi lo su)]) (fun E : String => E = eIO ∧ (ix_k i 4) = 1) := by
  intro sz
  refine g_xent (by decide) hst [(0, .ref (ad 0)), (1, .int i)] (Nat.le_of_ble_eq_true rfl) rfl ?_
  intro p e s m below meth c B hr hnm hsz hT
  have B : gB p l s m ([.ref (ad 0), .int i] : List Value).toArray meth c RX1 cX1_voice 2 g (va_A [((ad 0), cM ad e0 mi lo su)] sz) := B
  have hA9 : (va_A [((ad 0), cM ad e0 mi lo su)] sz) = va_A [((ad 0), cM ad e0 mi lo su)] s.heap.size := by rw [hsz]
  subst hsz
  refine g_iload_n B 1 1 dX1_voice_0 rfl rfl ?_
  refine g_iconst (v := 4) B dX1_voice_1 kc_4 ?_
  refine g_xuS_v (As := [.int i, .int 4]) B (m_X1_requireIndex l hst g i 4) [] [] (lw_S q669 q670 q26 q671) nsX1_requireIndex rfl rfl rfl rfl (Nat.le_of_ble_eq_true rfl) dX1_voice_2 ⟨Nat.le_of_ble_eq_true rfl, Nat.le_of_ble_eq_true rfl⟩ ⟨Nat.le_of_ble_eq_true rfl, Nat.le_of_ble_eq_true rfl⟩ (fun E hE => ?_) (fun ur_1 hr_1 => ?_)
  · skip
    have hK9 : ¬ (ix_k i 4) = 0 := by rw [hE.2]; decide
    exact g_xout B hT hA9 (Nat.le_of_ble_eq_true rfl) (Nat.le_of_ble_eq_true rfl) ⟨hE.1, (by first | exact hE.2 | (simp only [if_neg hK9]; done) | (simp only [if_neg hK9]; rfl) | rfl)⟩ [0] rfl rfl
  have kr_1 : (ix_k i 4) = 0 := hr_1
  exact absurd kr_1 hb
