/-! PURE: the class and the reference, one beside the other: what is set -/
set_option maxRecDepth 100000
theorem S_draw {N : Nat} {mi : Nat → Int32} {lo : Int64} {dr hd : Nat → Int32} {ig tr : Nat → Nat → Int32} {tw : Nat → Nat → Nat → Int32} {en : Nat → Int32} {vf : Nat → Nat → Int32} {rw : Nat → Int32} {da : Nat → Nat → Int32} {di : Nat → Int32} {sm : Int64} (h : Sim N mi lo dr hd ig tr tw en vf rw da di sm) {p v : Int32} (hk : k_draw p v = 0) : dr p.toNatClampNeg = da 1 p.toNatClampNeg ∧ Sim N mi lo (upd dr p.toNatClampNeg v) hd ig tr tw en vf rw (va_up da 1 (upd (da 1) p.toNatClampNeg v)) di sm := by
  obtain ⟨⟨⟨hdr, hig, hV, hdl⟩, ⟨ht, hw⟩, ⟨d0, d1, d2, d3, d4, d5, d6, d7, d8, d9, d10, d11, d12⟩, ⟨hI, hE, hT⟩, ⟨⟨hm0, hm1⟩, hg, hb⟩⟩, hhd, ⟨c13, c14, c15, c16⟩, hlo⟩ := h
  unfold k_draw at hk
  have h1 := sel0 one_n hk
  have hp := in_lt (ix_in (N := 32) h1.1 (by decide))
  exact ⟨(hdr _ hp).symm, ⟨⟨upd_at hdr rfl, hig, hV, hdl⟩, ⟨ht, hw⟩, ⟨d0, d1, d2, d3, d4, d5, d6, d7, d8, d9, d10, d11, d12⟩, ⟨hI, hE, hT⟩, ⟨⟨hm0, hm1⟩, hg, hb⟩⟩, hhd, ⟨c13, c14, c15, c16⟩, hlo⟩
/-- a row of an instrument's numbers is put, in both -/
theorem put_eq {iw nu : Nat → Int32} {ig : Nat → Nat → Int32} {g : Nat → Int32} {i : Int32} {fr n : Nat} {F : Int32} (h : ∀ k, k < 4 → ∀ j, j < 12 → iw (12 * k + j) = ig k j) (hi : vp_in i 4) (hF : F = nI fr) (hn : fr + n ≤ 12) (h1 : ∀ j, j < n → nu j = g (fr + j)) (h2 : ∀ j, j < 12 → (j < fr ∨ fr + n ≤ j) → ig i.toNatClampNeg j = g j) : ∀ k, k < 4 → ∀ j, j < 12 → d_put iw nu i F n (12 * k + j) = va_up ig i.toNatClampNeg g k j := by
  obtain ⟨a, ha, rfl⟩ := vp_in_of hi (by decide)
  rw [nI_clamp (by omega)] at h2 ⊢
  subst hF
  intro k hk j hj
  unfold d_put
  rw [show (12 : Int32) = nI 12 from rfl, pk_mul, nI_add, nI_clamp (by omega)]
  by_cases q : k = a
  · subst q
    rw [va_up_self]
    by_cases c : fr ≤ j ∧ j < fr + n
    · rw [pk_cpy_in (by omega) (by omega), h1 _ (by omega)]
      exact congrArg g (by omega)
    · rw [pk_cpy_out (by omega), h k hk j hj]
      exact h2 j hj (by omega)
  · rw [va_up_ne _ _ q, pk_cpy_out (by omega), h k hk j hj]
theorem at_eq {iw : Nat → Int32} {ig : Nat → Nat → Int32} {i F : Int32} {j : Nat} (h : ∀ k, k < 4 → ∀ j, j < 12 → iw (12 * k + j) = ig k j) (hi : vp_in i 4) (hF : F = nI j) (hj : j < 12) : ig i.toNatClampNeg j = iw (i * 12 + F).toNatClampNeg := by
  obtain ⟨a, ha, rfl⟩ := vp_in_of hi (by decide)
  subst hF
  rw [nI_clamp (by omega), show (12 : Int32) = nI 12 from rfl, pk_mul, nI_add, nI_clamp (by omega), ← h a ha j hj]
  exact congrArg iw (by omega)
theorem IOK_up {ig : Nat → Nat → Int32} {g : Nat → Int32} {a : Nat} (h : ∀ k, k < 4 → IOK (ig k)) (hg : IOK g) : ∀ k, k < 4 → IOK (va_up ig a g k) := by
  intro k hk
  by_cases q : k = a
  · subst q
    rw [va_up_self]
    exact hg
  · rw [va_up_ne _ _ q]
    exact h k hk
theorem cases4 {P : Nat → Prop} (h0 : P 0) (h1 : P 1) (h2 : P 2) (h3 : P 3) : ∀ j, j < 4 → P j := by
  intro j hj
  rcases (show j = 0 ∨ j = 1 ∨ j = 2 ∨ j = 3 by omega) with rfl | rfl | rfl | rfl
  · exact h0
  · exact h1
  · exact h2
  · exact h3
theorem cases2 {P : Nat → Prop} (h0 : P 0) (h1 : P 1) : ∀ j, j < 2 → P j := by
  intro j hj
  rcases (show j = 0 ∨ j = 1 by omega) with rfl | rfl
  · exact h0
  · exact h1
theorem s_wav_o (f : Nat → Int32) (a b d m : Int32) {j : Nat} (h : 4 ≤ j) : s_wav f a b d m j = f j := by
  unfold s_wav
  rw [upd_ne (by omega), upd_ne (by omega), upd_ne (by omega), upd_ne (by omega)]
theorem s_env_o (f : Nat → Int32) (a b d m : Int32) {j : Nat} (h : j < 4 ∨ 8 ≤ j) : s_env f a b d m j = f j := by
  unfold s_env
  rw [upd_ne (by omega), upd_ne (by omega), upd_ne (by omega), upd_ne (by omega)]
theorem s_fil_o (f : Nat → Int32) (a b : Int32) {j : Nat} (h : j < 8 ∨ 10 ≤ j) : s_fil f a b j = f j := by
  unfold s_fil
  rw [upd_ne (by omega), upd_ne (by omega)]
theorem s_vib_o (f : Nat → Int32) (a b : Int32) {j : Nat} (h : j < 10 ∨ 12 ≤ j) : s_vib f a b j = f j := by
  unfold s_vib
  rw [upd_ne (by omega), upd_ne (by omega)]
theorem in_rg2 {x : Int32} {n : Nat} {b : Int} (h : vp_in x n) (hb : (n : Int) - 1 = b) : rg x 0 b := by
  have q := in_rg h
  rw [hb] at q
  exact q
/-- an instrument is set -/
theorem S_put {N : Nat} {mi : Nat → Int32} {lo : Int64} {dr hd : Nat → Int32} {ig tr : Nat → Nat → Int32} {tw : Nat → Nat → Nat → Int32} {en : Nat → Int32} {vf : Nat → Nat → Int32} {rw : Nat → Int32} {da : Nat → Nat → Int32} {di : Nat → Int32} {sm : Int64} (h : Sim N mi lo dr hd ig tr tw en vf rw da di sm) {i F : Int32} {fr n : Nat} {nu g : Nat → Int32} (hi : vp_in i 4) (hF : F = nI fr) (hn : fr + n ≤ 12) (h1 : ∀ j, j < n → nu j = g (fr + j)) (h2 : ∀ j, j < 12 → (j < fr ∨ fr + n ≤ j) → ig i.toNatClampNeg j = g j) (hg : IOK (ig i.toNatClampNeg) → IOK g) : Sim N mi lo dr hd (va_up ig i.toNatClampNeg g) tr tw en vf rw (va_up da 2 (d_put (da 2) nu i F n)) di sm := by
  have hi4 := in_lt hi
  obtain ⟨⟨⟨hdr, hig, hV, hdl⟩, ⟨ht, hw⟩, ⟨d0, d1, d2, d3, d4, d5, d6, d7, d8, d9, d10, d11, d12⟩, ⟨hI, hE, hT⟩, ⟨⟨hm0, hm1⟩, hg2, hb⟩⟩, hhd, ⟨c13, c14, c15, c16⟩, hlo⟩ := h
  exact ⟨⟨⟨hdr, put_eq hig hi hF hn h1 h2, hV, hdl⟩, ⟨ht, hw⟩, ⟨d0, d1, d2, d3, d4, d5, d6, d7, d8, d9, d10, d11, d12⟩, ⟨IOK_up hI (hg (hI _ hi4)), hE, hT⟩, ⟨⟨hm0, hm1⟩, hg2, hb⟩⟩, hhd, ⟨c13, c14, c15, c16⟩, hlo⟩
theorem S_waves {N : Nat} {mi : Nat → Int32} {lo : Int64} {dr hd : Nat → Int32} {ig tr : Nat → Nat → Int32} {tw : Nat → Nat → Nat → Int32} {en : Nat → Int32} {vf : Nat → Nat → Int32} {rw : Nat → Int32} {da : Nat → Nat → Int32} {di : Nat → Int32} {sm : Int64} (h : Sim N mi lo dr hd ig tr tw en vf rw da di sm) {i a b d m : Int32} (hk : k_waves i a b d m = 0) : ig i.toNatClampNeg 3 = da 2 (i * 12 + 3).toNatClampNeg ∧ Sim N mi lo dr hd (va_up ig i.toNatClampNeg (s_wav (ig i.toNatClampNeg) a b d m)) tr tw en vf rw (va_up da 2 (d_put (da 2) (d_n4 a b d m) i 0 4)) di sm := by
  unfold k_waves at hk
  have h1 := sel0 one_n hk
  have h2 := sel0 one_n h1.2
  have h3 := sel0 one_n h2.2
  have h4 := sel0 two_n h3.2
  have hi := ix_in (N := 4) h1.1 (by decide)
  have ha : rg a 0 3 := in_rg2 (ix_in (N := 4) h2.1 (by decide)) (by decide)
  have hb : rg b 0 3 := in_rg2 (ix_in (N := 4) h3.1 (by decide)) (by decide)
  have hd2 : rg d (-64) 64 := fr_r h4.1 (by decide) (by decide)
  have hm : rg m 0 100 := fr_r (sel1 two_n h4.2) (by decide) (by decide)
  refine ⟨at_eq h.1.1.2.1 hi rfl (by decide), S_put h hi rfl (by decide) (cases4 rfl rfl rfl rfl) (fun j hj hq => (s_wav_o _ _ _ _ _ (by omega)).symm) (fun q => ?_)⟩
  obtain ⟨q0, q1, q2, q3, q4, q5, q6, q7, q8, q9, q10, q11⟩ := q
  exact ⟨ha, hb, hd2, hm, q4, q5, q6, q7, q8, q9, q10, q11⟩
theorem S_env {N : Nat} {mi : Nat → Int32} {lo : Int64} {dr hd : Nat → Int32} {ig tr : Nat → Nat → Int32} {tw : Nat → Nat → Nat → Int32} {en : Nat → Int32} {vf : Nat → Nat → Int32} {rw : Nat → Int32} {da : Nat → Nat → Int32} {di : Nat → Int32} {sm : Int64} (h : Sim N mi lo dr hd ig tr tw en vf rw da di sm) {i a d u r : Int32} (hk : k_env i a d u r = 0) : ig i.toNatClampNeg 6 = da 2 (i * 12 + 6).toNatClampNeg ∧ Sim N mi lo dr hd (va_up ig i.toNatClampNeg (s_env (ig i.toNatClampNeg) a d u r)) tr tw en vf rw (va_up da 2 (d_put (da 2) (d_n4 a d u r) i 4 4)) di sm := by
  unfold k_env at hk
  have h1 := sel0 one_n hk
  have h2 := sel0 two_n h1.2
  have h3 := sel0 two_n h2.2
  have h4 := sel0 two_n h3.2
  have hi := ix_in (N := 4) h1.1 (by decide)
  have ha : rg a 1 400 := fr_r h2.1 (by decide) (by decide)
  have hd2 : rg d 1 400 := fr_r h3.1 (by decide) (by decide)
  have hu : rg u 0 1000 := fr_r h4.1 (by decide) (by decide)
  have hr : rg r 1 400 := fr_r (sel1 two_n h4.2) (by decide) (by decide)
  refine ⟨at_eq h.1.1.2.1 hi rfl (by decide), S_put h hi (fr := 4) rfl (by decide) (cases4 rfl rfl rfl rfl) (fun j hj hq => (s_env_o _ _ _ _ _ (by omega)).symm) (fun q => ?_)⟩
  obtain ⟨q0, q1, q2, q3, q4, q5, q6, q7, q8, q9, q10, q11⟩ := q
  exact ⟨q0, q1, q2, q3, ha, hd2, hu, hr, q8, q9, q10, q11⟩
theorem S_filter {N : Nat} {mi : Nat → Int32} {lo : Int64} {dr hd : Nat → Int32} {ig tr : Nat → Nat → Int32} {tw : Nat → Nat → Nat → Int32} {en : Nat → Int32} {vf : Nat → Nat → Int32} {rw : Nat → Int32} {da : Nat → Nat → Int32} {di : Nat → Int32} {sm : Int64} (h : Sim N mi lo dr hd ig tr tw en vf rw da di sm) {i a b : Int32} (hk : k_filter i a b = 0) : ig i.toNatClampNeg 8 = da 2 (i * 12 + 8).toNatClampNeg ∧ Sim N mi lo dr hd (va_up ig i.toNatClampNeg (s_fil (ig i.toNatClampNeg) a b)) tr tw en vf rw (va_up da 2 (d_put (da 2) (d_n2 a b) i 8 2)) di sm := by
  unfold k_filter at hk
  have h1 := sel0 one_n hk
  have h2 := sel0 two_n h1.2
  have hi := ix_in (N := 4) h1.1 (by decide)
  have ha : rg a 1 128 := fr_r h2.1 (by decide) (by decide)
  have hb : rg b 16 256 := fr_r (sel1 two_n h2.2) (by decide) (by decide)
  refine ⟨at_eq h.1.1.2.1 hi rfl (by decide), S_put h hi (fr := 8) rfl (by decide) (cases2 rfl rfl) (fun j hj hq => (s_fil_o _ _ _ (by omega)).symm) (fun q => ?_)⟩
  obtain ⟨q0, q1, q2, q3, q4, q5, q6, q7, q8, q9, q10, q11⟩ := q
  exact ⟨q0, q1, q2, q3, q4, q5, q6, q7, ha, hb, q10, q11⟩
theorem S_vib {N : Nat} {mi : Nat → Int32} {lo : Int64} {dr hd : Nat → Int32} {ig tr : Nat → Nat → Int32} {tw : Nat → Nat → Nat → Int32} {en : Nat → Int32} {vf : Nat → Nat → Int32} {rw : Nat → Int32} {da : Nat → Nat → Int32} {di : Nat → Int32} {sm : Int64} (h : Sim N mi lo dr hd ig tr tw en vf rw da di sm) {i a b : Int32} (hk : k_vib i a b = 0) : ig i.toNatClampNeg 10 = da 2 (i * 12 + 10).toNatClampNeg ∧ Sim N mi lo dr hd (va_up ig i.toNatClampNeg (s_vib (ig i.toNatClampNeg) a b)) tr tw en vf rw (va_up da 2 (d_put (da 2) (d_n2 a b) i 10 2)) di sm := by
  unfold k_vib at hk
  have h1 := sel0 one_n hk
  have h2 := sel0 two_n h1.2
  have hi := ix_in (N := 4) h1.1 (by decide)
  have ha : rg a 0 64 := fr_r h2.1 (by decide) (by decide)
  have hb : rg b 8 255 := fr_r (sel1 two_n h2.2) (by decide) (by decide)
  refine ⟨at_eq h.1.1.2.1 hi rfl (by decide), S_put h hi (fr := 10) rfl (by decide) (cases2 rfl rfl) (fun j hj hq => (s_vib_o _ _ _ (by omega)).symm) (fun q => ?_)⟩
  obtain ⟨q0, q1, q2, q3, q4, q5, q6, q7, q8, q9, q10, q11⟩ := q
  exact ⟨q0, q1, q2, q3, q4, q5, q6, q7, q8, q9, ha, hb⟩
theorem S_gain {N : Nat} {mi : Nat → Int32} {lo : Int64} {dr hd : Nat → Int32} {ig tr : Nat → Nat → Int32} {tw : Nat → Nat → Nat → Int32} {en : Nat → Int32} {vf : Nat → Nat → Int32} {rw : Nat → Int32} {da : Nat → Nat → Int32} {di : Nat → Int32} {sm : Int64} (h : Sim N mi lo dr hd ig tr tw en vf rw da di sm) (v : Int32) : mi 2 = di 2 ∧ Sim N (upd mi 2 v) lo dr hd ig tr tw en vf rw da (upd di 2 v) sm := by
  obtain ⟨⟨⟨hdr, hig, hV, hdl⟩, ⟨ht, hw⟩, ⟨d0, d1, d2, d3, d4, d5, d6, d7, d8, d9, d10, d11, d12⟩, ⟨hI, hE, hT⟩, ⟨⟨hm0, hm1⟩, hg, hb⟩⟩, hhd, ⟨c13, c14, c15, c16⟩, hlo⟩ := h
  exact ⟨d2.symm, ⟨⟨hdr, hig, hV, hdl⟩, ⟨ht, hw⟩, ⟨d0, d1, rfl, d3, d4, d5, d6, d7, d8, d9, d10, d11, d12⟩, ⟨hI, hE, hT⟩, ⟨⟨hm0, hm1⟩, hg, hb⟩⟩, hhd, ⟨c13, c14, c15, c16⟩, hlo⟩
theorem S_delay {N : Nat} {mi : Nat → Int32} {lo : Int64} {dr hd : Nat → Int32} {ig tr : Nat → Nat → Int32} {tw : Nat → Nat → Nat → Int32} {en : Nat → Int32} {vf : Nat → Nat → Int32} {rw : Nat → Int32} {da : Nat → Nat → Int32} {di : Nat → Int32} {sm : Int64} (h : Sim N mi lo dr hd ig tr tw en vf rw da di sm) {n w b : Int32} (hk : k_delay n w b = 0) : mi 3 = di 3 ∧ Sim N (s_del mi n w b) lo dr hd ig tr tw (upd en 0 0) vf (rz 200 rw) (va_up da 14 (rz 200 (da 14))) (upd (upd (upd di 3 n) 4 w) 5 b) sm := by
  obtain ⟨⟨⟨hdr, hig, hV, hdl⟩, ⟨ht, hw⟩, ⟨d0, d1, d2, d3, d4, d5, d6, d7, d8, d9, d10, d11, d12⟩, ⟨hI, hE, hT⟩, ⟨⟨hm0, hm1⟩, hg, hb⟩⟩, hhd, ⟨c13, c14, c15, c16⟩, hlo⟩ := h
  unfold k_delay at hk
  have hn : rg n 0 200 := fr_r (sel0 one_n hk).1 (by decide) (by decide)
  obtain ⟨L, hL, hL2, e⟩ := rg_nI hn
  have hE2 : eOK N (s_del mi n w b) (upd en 0 0) vf := by
    obtain ⟨a1, a2, a3, a4, a5, a6⟩ := hE
    refine ⟨a1, a2, a3, hn, fun q => ?_, a6⟩
    show vp_in (0 : Int32) n.toNatClampNeg
    have q2 : ¬ n ≤ 0 := q
    rw [e] at q2 ⊢
    rw [nI_clamp hL2]
    rcases L with _ | L
    · exact absurd (by decide) q2
    · exact vp_in_nI (k := 0) (by omega) (by omega)
  refine ⟨d3.symm, ⟨⟨hdr, hig, hV, fun i hi => ?_⟩, ⟨ht, hw⟩, ⟨d0, d1, d2, rfl, rfl, rfl, d6, d7, d8, d9, d10, d11, d12⟩, ⟨hI, hE2, hT⟩, ⟨⟨hm0, hm1⟩, hg, hb⟩⟩, hhd, ⟨c13, c14, c15, c16⟩, hlo⟩
  have hi2 : i < n.toNatClampNeg := hi
  rw [e, nI_clamp hL2] at hi2
  have q := p_dl_eq (mi := s_del mi n w b) (en := upd en 0 0) (rw := rz 200 rw) (L := L) (hh := 0) (i := i) e rfl (by omega) (by omega) hi2
  rw [q]
  show rz 200 (da 14) i = _
  have m := Nat.mod_lt (0 + i) (show 0 < L by omega)
  unfold rz
  rw [if_pos (by omega), if_pos (by omega)]
theorem S_tempo {N : Nat} {mi : Nat → Int32} {lo : Int64} {dr hd : Nat → Int32} {ig tr : Nat → Nat → Int32} {tw : Nat → Nat → Nat → Int32} {en : Nat → Int32} {vf : Nat → Nat → Int32} {rw : Nat → Int32} {da : Nat → Nat → Int32} {di : Nat → Int32} {sm : Int64} (h : Sim N mi lo dr hd ig tr tw en vf rw da di sm) {t w : Int32} (hk : k_tempo t w = 0) : mi 0 = di 6 ∧ Sim N (upd (upd mi 0 t) 1 w) lo dr hd ig tr tw en vf rw da (upd (upd di 6 t) 7 w) sm := by
  obtain ⟨⟨⟨hdr, hig, hV, hdl⟩, ⟨ht, hw⟩, ⟨d0, d1, d2, d3, d4, d5, d6, d7, d8, d9, d10, d11, d12⟩, ⟨hI, hE, hT⟩, ⟨⟨hm0, hm1⟩, hg, hb⟩⟩, hhd, ⟨c13, c14, c15, c16⟩, hlo⟩ := h
  unfold k_tempo at hk
  have h1 := sel0 one_n hk
  have a : rg t 1 200 := fr_r h1.1 (by decide) (by decide)
  have e : (t - 1).toInt = t.toInt - 1 := by
    have z1 := a.1
    have z2 := a.2
    rw [Jvm.Kit.i32_sub (by rw [show (1 : Int32).toInt = 1 by decide]; omega) (by rw [show (1 : Int32).toInt = 1 by decide]; omega), show (1 : Int32).toInt = 1 by decide]
  have b : rg w 0 (t.toInt - 1) := fr_r (sel1 one_n h1.2) (by decide) e
  exact ⟨d6.symm, ⟨⟨hdr, hig, hV, hdl⟩, ⟨ht, hw⟩, ⟨d0, d1, d2, d3, d4, d5, rfl, rfl, d8, d9, d10, d11, d12⟩, ⟨hI, hE, hT⟩, ⟨⟨a, b⟩, hg, hb⟩⟩, hhd, ⟨c13, c14, c15, c16⟩, hlo⟩
theorem S_play {N : Nat} {mi : Nat → Int32} {lo : Int64} {dr hd : Nat → Int32} {ig tr : Nat → Nat → Int32} {tw : Nat → Nat → Nat → Int32} {en : Nat → Int32} {vf : Nat → Nat → Int32} {rw : Nat → Int32} {da : Nat → Nat → Int32} {di : Nat → Int32} {sm : Int64} (h : Sim N mi lo dr hd ig tr tw en vf rw da di sm) {j : Int32} (hk : k_play j = 0) : en 4 = di 8 ∧ Sim N mi lo dr hd ig tr tw (s_play en j) vf rw da (upd (upd (upd di 8 1) 9 j) 10 0) sm := by
  obtain ⟨⟨⟨hdr, hig, hV, hdl⟩, ⟨ht, hw⟩, ⟨d0, d1, d2, d3, d4, d5, d6, d7, d8, d9, d10, d11, d12⟩, ⟨hI, hE, hT⟩, ⟨⟨hm0, hm1⟩, hg, hb⟩⟩, hhd, ⟨c13, c14, c15, c16⟩, hlo⟩ := h
  unfold k_play at hk
  have hj := ix_in (N := 8) (sel1 one_n hk) (by decide)
  obtain ⟨a1, a2, a3, a4, a5, a6⟩ := hE
  exact ⟨d8.symm, ⟨⟨hdr, hig, hV, hdl⟩, ⟨ht, hw⟩, ⟨d0, d1, d2, d3, d4, d5, d6, d7, rfl, rfl, rfl, d11, d12⟩, ⟨hI, ⟨a1, hj, a3, a4, a5, Or.inr rfl⟩, hT⟩, ⟨⟨hm0, hm1⟩, ⟨Int.le_refl _, Or.inl rfl⟩, hb⟩⟩, hhd, ⟨c13, c14, c15, c16⟩, hlo⟩
theorem S_stop {N : Nat} {mi : Nat → Int32} {lo : Int64} {dr hd : Nat → Int32} {ig tr : Nat → Nat → Int32} {tw : Nat → Nat → Nat → Int32} {en : Nat → Int32} {vf : Nat → Nat → Int32} {rw : Nat → Int32} {da : Nat → Nat → Int32} {di : Nat → Int32} {sm : Int64} (h : Sim N mi lo dr hd ig tr tw en vf rw da di sm) : p_step en = d_step di ∧ Sim N mi lo dr hd ig tr tw (upd en 4 0) vf rw da (upd di 8 0) sm := by
  refine ⟨S_step h, ?_⟩
  obtain ⟨⟨⟨hdr, hig, hV, hdl⟩, ⟨ht, hw⟩, ⟨d0, d1, d2, d3, d4, d5, d6, d7, d8, d9, d10, d11, d12⟩, ⟨hI, hE, hT⟩, ⟨⟨hm0, hm1⟩, hg, hb⟩⟩, hhd, ⟨c13, c14, c15, c16⟩, hlo⟩ := h
  obtain ⟨a1, a2, a3, a4, a5, a6⟩ := hE
  exact ⟨⟨⟨hdr, hig, hV, hdl⟩, ⟨ht, hw⟩, ⟨d0, d1, d2, d3, d4, d5, d6, d7, rfl, d9, d10, d11, d12⟩, ⟨hI, ⟨a1, a2, a3, a4, a5, Or.inl rfl⟩, hT⟩, ⟨⟨hm0, hm1⟩, hg, hb⟩⟩, hhd, ⟨c13, c14, c15, c16⟩, hlo⟩
theorem S_reset {N : Nat} {mi : Nat → Int32} {lo : Int64} {dr hd : Nat → Int32} {ig tr : Nat → Nat → Int32} {tw : Nat → Nat → Nat → Int32} {en : Nat → Int32} {vf : Nat → Nat → Int32} {rw : Nat → Int32} {da : Nat → Nat → Int32} {di : Nat → Int32} {sm : Int64} (h : Sim N mi lo dr hd ig tr tw en vf rw da di sm) : mi 6 = di 13 ∧ Sim N (s_rst mi) 0 dr hd ig tr tw en vf rw da (d_rst di) 0 := by
  obtain ⟨⟨⟨hdr, hig, hV, hdl⟩, ⟨ht, hw⟩, ⟨d0, d1, d2, d3, d4, d5, d6, d7, d8, d9, d10, d11, d12⟩, ⟨hI, hE, hT⟩, ⟨⟨hm0, hm1⟩, hg, hb⟩⟩, hhd, ⟨c13, c14, c15, c16⟩, hlo⟩ := h
  exact ⟨c13.symm, ⟨⟨hdr, hig, hV, hdl⟩, ⟨ht, hw⟩, ⟨d0, d1, d2, d3, d4, d5, d6, d7, d8, d9, d10, d11, d12⟩, ⟨hI, hE, hT⟩, ⟨⟨hm0, hm1⟩, hg, hb⟩⟩, hhd, ⟨rfl, rfl, rfl, rfl⟩, rfl⟩
theorem S_track {N : Nat} {mi : Nat → Int32} {lo : Int64} {dr hd : Nat → Int32} {ig tr : Nat → Nat → Int32} {tw : Nat → Nat → Nat → Int32} {en : Nat → Int32} {vf : Nat → Nat → Int32} {rw : Nat → Int32} {da : Nat → Nat → Int32} {di : Nat → Int32} {sm : Int64} (h : Sim N mi lo dr hd ig tr tw en vf rw da di sm) {t i : Int32} (hk : k_track t i = 0) : tr t.toNatClampNeg 0 = da 15 t.toNatClampNeg ∧ Sim N mi lo dr hd ig (va_up tr t.toNatClampNeg (upd (tr t.toNatClampNeg) 0 i)) tw en vf rw (va_up da 15 (upd (da 15) t.toNatClampNeg i)) di sm := by
  obtain ⟨⟨⟨hdr, hig, hV, hdl⟩, ⟨ht, hw⟩, ⟨d0, d1, d2, d3, d4, d5, d6, d7, d8, d9, d10, d11, d12⟩, ⟨hI, hE, hT⟩, ⟨⟨hm0, hm1⟩, hg, hb⟩⟩, hhd, ⟨c13, c14, c15, c16⟩, hlo⟩ := h
  unfold k_track at hk
  have h1 := sel0 one_n hk
  have ht3 := in_lt (ix_in (N := 3) h1.1 (by decide))
  have hi4 := ix_in (N := 4) (sel1 one_n h1.2) (by decide)
  refine ⟨(ht _ ht3).symm, ⟨⟨hdr, hig, hV, hdl⟩, ⟨fun k hk2 => ?_, hw⟩, ⟨d0, d1, d2, d3, d4, d5, d6, d7, d8, d9, d10, d11, d12⟩, ⟨hI, hE, fun k hk2 => ⟨?_, (hT k hk2).2⟩⟩, ⟨⟨hm0, hm1⟩, hg, hb⟩⟩, hhd, ⟨c13, c14, c15, c16⟩, hlo⟩
  · show upd (da 15) t.toNatClampNeg i k = _
    by_cases q : k = t.toNatClampNeg
    · rw [q, pk_us, va_up_self, pk_us]
    · rw [upd_ne q, va_up_ne _ _ q, ht k hk2]
  · by_cases q : k = t.toNatClampNeg
    · rw [q, va_up_self, pk_us]
      exact hi4
    · rw [va_up_ne _ _ q]
      exact (hT k hk2).1
