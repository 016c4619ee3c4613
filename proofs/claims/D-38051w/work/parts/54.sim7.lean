/-! PURE: the class and the reference, one beside the other: notes, steps, samples -/
set_option maxRecDepth 100000
theorem eOK_mono {N M : Nat} {mi en : Nat → Int32} {vf : Nat → Nat → Int32} (h : eOK N mi en vf) (hM : N ≤ M) : eOK M mi en vf := by
  obtain ⟨a1, a2, a3, a4, a5, a6⟩ := h
  exact ⟨a1, a2, ⟨a3.1, by have := a3.2; omega⟩, a4, a5, a6⟩
theorem SimE_mono {N : Nat} {mi dr : Nat → Int32} {ig tr : Nat → Nat → Int32} {tw : Nat → Nat → Nat → Int32} {en : Nat → Int32} {vf : Nat → Nat → Int32} {rw : Nat → Int32} {da : Nat → Nat → Int32} {di : Nat → Int32} {M : Nat} (h : SimE N mi dr ig tr tw en vf rw da di) (hM : N ≤ M) : SimE M mi dr ig tr tw en vf rw da di := by
  obtain ⟨⟨hdr, hig, hV, hdl⟩, hw, hd, ⟨hI, hE, hT⟩, ⟨hm, hg, hb⟩⟩ := h
  exact ⟨⟨hdr, hig, fun v hv => (hV v hv).mono (by omega), hdl⟩, hw, hd, ⟨hI, eOK_mono hE hM, hT⟩, ⟨hm, hg, ⟨hb.1, by have := hb.2; omega⟩⟩⟩
theorem Sim_mono {N : Nat} {mi : Nat → Int32} {lo : Int64} {dr hd : Nat → Int32} {ig tr : Nat → Nat → Int32} {tw : Nat → Nat → Nat → Int32} {en : Nat → Int32} {vf : Nat → Nat → Int32} {rw : Nat → Int32} {da : Nat → Nat → Int32} {di : Nat → Int32} {sm : Int64} {M : Nat} (h : Sim N mi lo dr hd ig tr tw en vf rw da di sm) (hM : N ≤ M) : Sim M mi lo dr hd ig tr tw en vf rw da di sm := ⟨SimE_mono h.1 hM, h.2⟩
theorem SimE_mi {N : Nat} {mi dr : Nat → Int32} {ig tr : Nat → Nat → Int32} {tw : Nat → Nat → Nat → Int32} {en : Nat → Int32} {vf : Nat → Nat → Int32} {rw : Nat → Int32} {da : Nat → Nat → Int32} {di : Nat → Int32} {mj : Nat → Int32} (h : SimE N mi dr ig tr tw en vf rw da di) (e : ∀ k, k < 6 → mj k = mi k) : SimE N mj dr ig tr tw en vf rw da di := by
  have ep : ∀ i, p_dl mj en rw i = p_dl mi en rw i := by
    intro i
    unfold p_dl
    rw [e 3 (by decide)]
  obtain ⟨⟨hdr, hig, hV, hdl⟩, hw, ⟨d0, d1, d2, d3, d4, d5, d6, d7, d8, d9, d10, d11, d12⟩, ⟨hI, hE, hT⟩, ⟨⟨hm0, hm1⟩, hg, hb⟩⟩ := h
  refine ⟨⟨hdr, hig, hV, fun i hi => ?_⟩, hw, ⟨d0, d1, d2.trans (e 2 (by decide)).symm, d3.trans (e 3 (by decide)).symm, d4.trans (e 4 (by decide)).symm, d5.trans (e 5 (by decide)).symm, d6.trans (e 0 (by decide)).symm, d7.trans (e 1 (by decide)).symm, d8, d9, d10, d11, d12⟩, ⟨hI, eOK_mi hE (e 3 (by decide)), hT⟩, ⟨⟨by rw [e 0 (by decide)]; exact hm0, by rw [e 0 (by decide), e 1 (by decide)]; exact hm1⟩, hg, hb⟩⟩
  rw [ep]
  rw [e 3 (by decide)] at hi
  exact hdl i hi
-- notes
theorem e_be_2 (vf : Nat → Nat → Int32) (en : Nat → Int32) : e_be vf en 2 = en 2 + 1 := by
  unfold e_be
  split
  · exact pk_us
  · exact pk_us
theorem S_begin {N : Nat} {mi : Nat → Int32} {lo : Int64} {dr hd : Nat → Int32} {ig tr : Nat → Nat → Int32} {tw : Nat → Nat → Nat → Int32} {en : Nat → Int32} {vf : Nat → Nat → Int32} {rw : Nat → Int32} {da : Nat → Nat → Int32} {di : Nat → Int32} {sm : Int64} (h : Sim N mi lo dr hd ig tr tw en vf rw da di sm) (hN : 4 * N + 8 < 2 ^ 31) {i p f : Int32} (hk : k_begin i p f = 0) : nI (v_nx vf) = nI (d_v da) ∧ Sim (N + 1) mi lo dr hd ig tr tw (e_be vf en) (e_bv vf en i p f (-1)) rw (d_be da di i p f (-1)) (d_bi da di) sm := by
  obtain ⟨⟨⟨hdr, hig, hV, hdl⟩, ⟨ht, hw⟩, ⟨d0, d1, d2, d3, d4, d5, d6, d7, d8, d9, d10, d11, d12⟩, ⟨hI, hE, hT⟩, ⟨⟨hm0, hm1⟩, hg, hb⟩⟩, hhd, ⟨c13, c14, c15, c16⟩, hlo⟩ := h
  unfold k_begin at hk
  have h1 := sel0 one_n hk
  have h2 := sel0 two_n h1.2
  have hi := ix_in (N := 4) h1.1 (by decide)
  have hp : vp_in p 48 := fr_in h2.1 (by decide)
  have hx := nx_eq hV (by omega)
  have o : ∀ k, k ≠ 2 → k ≠ 3 → e_be vf en k = en k := fun k a b => e_be_o vf en a b
  have q : ∀ k, k ≠ 0 → k ≠ 1 → d_bi da di k = di k := fun k a b => d_bi_9 da di a b
  have hVb := VR_begin (i := i) (p := p) (f := f) (g := -1) hV d0 hb (by omega)
  obtain ⟨a1, a2, a3, a4, a5, a6⟩ := hE
  have hE2 : eOK (N + 1) mi (e_be vf en) (e_bv vf en i p f (-1)) := by
    refine ⟨VOK_bv a1 hi hp, ?_, ?_, a4, fun z => ?_, ?_⟩
    · rw [o 5 (by decide) (by decide)]; exact a2
    · rw [o 1 (by decide) (by decide)]; exact ⟨a3.1, by have := a3.2; omega⟩
    · rw [o 0 (by decide) (by decide)]; exact a5 z
    · rw [o 4 (by decide) (by decide)]; exact a6
  have dk : ∀ k, (k = 1 ∨ k = 2 ∨ k = 4 ∨ k = 14 ∨ k = 15 ∨ k = 16 ∨ k = 17) → d_be da di i p f (-1) k = da k := fun k hk => d_bg_o _ _ _ _ _ _ _ hk
  refine ⟨congrArg nI hx.symm, ⟨⟨?_, ?_, fun v hv => (hVb v hv).mono (by omega), ?_⟩, ⟨?_, ?_⟩, ⟨?_, ?_, ?_, ?_, ?_, ?_, ?_, ?_, ?_, ?_, ?_, ?_, ?_⟩, ⟨hI, hE2, hT⟩, ⟨⟨hm0, hm1⟩, ?_, ?_⟩⟩, ?_, ⟨?_, ?_, ?_, ?_⟩, hlo⟩
  · rw [dk 1 (by decide)]; exact hdr
  · rw [dk 2 (by decide)]; exact hig
  · rw [dk 14 (by decide)]
    intro j hj
    rw [hdl j hj]
    unfold p_dl
    rw [o 0 (by decide) (by decide)]
  · rw [dk 15 (by decide)]; exact ht
  · rw [dk 16 (by decide)]; exact hw
  · rw [e_be_2]
    show di 0 + 1 = _
    rw [d0]
  · unfold d_bi e_be
    rw [upd_ne (by decide), pk_us, hx, d1, (hV _ (v_nx_lt vf)).1]
    by_cases z : vf (v_nx vf) 0 = 0
    · rw [if_pos z, z, mk_c_0, upd_ne (by decide), Int32.add_zero]
    · rw [if_neg z, mk_c_n z, upd_ne (by decide), pk_us]
  · rw [q 2 (by decide) (by decide)]; exact d2
  · rw [q 3 (by decide) (by decide)]; exact d3
  · rw [q 4 (by decide) (by decide)]; exact d4
  · rw [q 5 (by decide) (by decide)]; exact d5
  · rw [q 6 (by decide) (by decide)]; exact d6
  · rw [q 7 (by decide) (by decide)]; exact d7
  · rw [q 8 (by decide) (by decide), o 4 (by decide) (by decide)]; exact d8
  · rw [q 9 (by decide) (by decide), o 5 (by decide) (by decide)]; exact d9
  · rw [q 10 (by decide) (by decide), o 6 (by decide) (by decide)]; exact d10
  · rw [q 11 (by decide) (by decide), o 7 (by decide) (by decide)]; exact d11
  · rw [q 12 (by decide) (by decide), o 1 (by decide) (by decide)]; exact d12
  · rw [o 6 (by decide) (by decide), o 7 (by decide) (by decide)]; exact hg
  · rw [e_be_2]
    obtain ⟨j, hj, hj2, e⟩ := rg_nI hb
    rw [e, nI_1]
    unfold rg
    rw [nI_toInt (by omega)]
    omega
  · rw [dk 17 (by decide)]; exact hhd
  · rw [q 13 (by decide) (by decide)]; exact c13
  · rw [q 14 (by decide) (by decide)]; exact c14
  · rw [q 15 (by decide) (by decide)]; exact c15
  · rw [q 16 (by decide) (by decide)]; exact c16
theorem VOK_end {f : Nat → Int32} (h : VOK f) : VOK (v_end f) := by
  unfold VOK
  rw [v_end_o f (by decide), v_end_o f (by decide), v_end_o f (by decide), v_end_o f (by decide)]
  exact h
theorem VR_end {N : Nat} {da : Nat → Nat → Int32} {f : Nat → Int32} {v : Nat} (h : VR N da f v) : VR N (va_up da 3 (d_end (da 3) v)) (v_end f) v := by
  obtain ⟨h1, h2, h3, h4, h5, h6, h7, h8, h9, h10, h11, h12⟩ := h
  have e0 : d_end (da 3) v v = v_end f 0 := by
    rw [v_end_0, ← end_eq h11]
    unfold d_end
    rw [h1]
    split
    · exact h1
    · exact pk_us
  refine ⟨e0, ?_, ?_, ?_, ?_, ?_, ?_, ?_, ?_, ?_, ?_, fun q => ?_⟩
  · rw [v_end_o f (by decide)]; exact h2
  · rw [v_end_o f (by decide)]; exact h3
  · rw [v_end_o f (by decide)]; exact h4
  · rw [v_end_o f (by decide)]; exact h5
  · rw [v_end_o f (by decide)]; exact h6
  · rw [v_end_o f (by decide)]; exact h7
  · rw [v_end_o f (by decide)]; exact h8
  · rw [v_end_o f (by decide)]; exact h9
  · rw [v_end_o f (by decide)]; exact h10
  · rw [v_end_0]
    split
    · exact h11
    · exact ⟨by decide, by decide⟩
  · rw [v_end_0] at q
    rw [v_end_o f (by decide)]
    exact h12 (fun z => by rw [if_pos z] at q; exact q z)
theorem d_end_o (sa : Nat → Int32) {v j : Nat} (h : j ≠ v) : d_end sa v j = sa j := by
  unfold d_end
  split
  · rfl
  · exact upd_ne h
theorem S_end {N : Nat} {mi : Nat → Int32} {lo : Int64} {dr hd : Nat → Int32} {ig tr : Nat → Nat → Int32} {tw : Nat → Nat → Nat → Int32} {en : Nat → Int32} {vf : Nat → Nat → Int32} {rw : Nat → Int32} {da : Nat → Nat → Int32} {di : Nat → Int32} {sm : Int64} (h : Sim N mi lo dr hd ig tr tw en vf rw da di sm) {i : Int32} (hk : k_end i = 0) : vf i.toNatClampNeg 0 = da 3 i.toNatClampNeg ∧ Sim N mi lo dr hd ig tr tw en (va_up vf i.toNatClampNeg (v_end (vf i.toNatClampNeg))) rw (va_up da 3 (d_end (da 3) i.toNatClampNeg)) di sm := by
  obtain ⟨⟨⟨hdr, hig, hV, hdl⟩, ⟨ht, hw⟩, ⟨d0, d1, d2, d3, d4, d5, d6, d7, d8, d9, d10, d11, d12⟩, ⟨hI, hE, hT⟩, ⟨⟨hm0, hm1⟩, hg, hb⟩⟩, hhd, ⟨c13, c14, c15, c16⟩, hlo⟩ := h
  unfold k_end at hk
  have hi := in_lt (ix_in (N := 4) (sel1 one_n hk) (by decide))
  generalize i.toNatClampNeg = k at hi ⊢
  obtain ⟨a1, a2, a3, a4, a5, a6⟩ := hE
  have hE2 : eOK N mi en (va_up vf k (v_end (vf k))) := by
    refine ⟨fun j hj => ?_, a2, a3, a4, a5, a6⟩
    by_cases q : j = k
    · subst q
      rw [va_up_self]
      exact VOK_end (a1 j hj)
    · rw [va_up_ne _ _ q]
      exact a1 j hj
  refine ⟨(hV k hi).1.symm, ⟨⟨hdr, hig, fun v hv => ?_, hdl⟩, ⟨ht, hw⟩, ⟨d0, d1, d2, d3, d4, d5, d6, d7, d8, d9, d10, d11, d12⟩, ⟨hI, hE2, hT⟩, ⟨⟨hm0, hm1⟩, hg, hb⟩⟩, hhd, ⟨c13, c14, c15, c16⟩, hlo⟩
  by_cases q : v = k
  · subst q
    rw [va_up_self]
    exact VR_end (hV v hv)
  · rw [va_up_ne _ _ q]
    exact VR_of (hV v hv) (d_end_o _ q) rfl rfl rfl rfl rfl rfl rfl rfl rfl rfl
theorem d_h0_at (f : Nat → Int32) (x : Int32) : ∀ v, v < 4 → d_h0 f x v = x := cases4 rfl rfl rfl rfl
theorem S_hush {N : Nat} {mi : Nat → Int32} {lo : Int64} {dr hd : Nat → Int32} {ig tr : Nat → Nat → Int32} {tw : Nat → Nat → Nat → Int32} {en : Nat → Int32} {vf : Nat → Nat → Int32} {rw : Nat → Int32} {da : Nat → Nat → Int32} {di : Nat → Int32} {sm : Int64} (h : Sim N mi lo dr hd ig tr tw en vf rw da di sm) : v_snd vf = d_snd (da 3) ∧ Sim N mi lo dr hd ig tr tw en (fun k => v_hush (vf k)) rw (va_up (va_up (va_up da 3 (d_h0 (da 3) 0)) 4 (d_h0 (da 4) 0)) 12 (d_h0 (da 12) (-1))) di sm := by
  refine ⟨S_sounding h, ?_⟩
  obtain ⟨⟨⟨hdr, hig, hV, hdl⟩, ⟨ht, hw⟩, ⟨d0, d1, d2, d3, d4, d5, d6, d7, d8, d9, d10, d11, d12⟩, ⟨hI, hE, hT⟩, ⟨⟨hm0, hm1⟩, hg, hb⟩⟩, hhd, ⟨c13, c14, c15, c16⟩, hlo⟩ := h
  obtain ⟨a1, a2, a3, a4, a5, a6⟩ := hE
  have hE2 : eOK N mi en (fun k => v_hush (vf k)) := ⟨fun k hk => a1 k hk, a2, a3, a4, a5, a6⟩
  refine ⟨⟨⟨hdr, hig, fun v hv => ?_, hdl⟩, ⟨ht, hw⟩, ⟨d0, d1, d2, d3, d4, d5, d6, d7, d8, d9, d10, d11, d12⟩, ⟨hI, hE2, hT⟩, ⟨⟨hm0, hm1⟩, hg, hb⟩⟩, hhd, ⟨c13, c14, c15, c16⟩, hlo⟩
  obtain ⟨h1, h2, h3, h4, h5, h6, h7, h8, h9, h10, h11, h12⟩ := hV v hv
  refine ⟨d_h0_at _ _ v hv, d_h0_at _ _ v hv, h3, h4, h5, h6, h7, h8, h9, d_h0_at _ _ v hv, ⟨by decide, by decide⟩, fun q => absurd rfl q⟩
-- steps
theorem wr_eq {f : Nat → Int32} {tw : Nat → Nat → Nat → Int32} {t j : Nat} {p fo ga : Int32} (h : ∀ t, t < 3 → ∀ s, s < 8 → ∀ w, w < 3 → f ((t * 8 + s) * 3 + w) = tw t w s) (hj : j < 8) : ∀ t', t' < 3 → ∀ s, s < 8 → ∀ w, w < 3 → d_wr f ((t * 8 + j) * 3) p fo ga ((t' * 8 + s) * 3 + w) = s_wr tw t j p fo ga t' w s := by
  intro t' ht s hs w hw
  unfold d_wr s_wr
  by_cases q : t' = t
  · subst q
    rw [va_up_self]
    by_cases q2 : s = j
    · subst q2
      rcases (show w = 0 ∨ w = 1 ∨ w = 2 by omega) with rfl | rfl | rfl
      · rw [upd_ne (by omega), upd_ne (by omega), va_up_ne _ _ (by decide), va_up_ne _ _ (by decide), va_up_self, pk_us]
        exact pk_us
      · rw [upd_ne (by omega), pk_us, va_up_ne _ _ (by decide), va_up_self, pk_us]
      · rw [pk_us, va_up_self, pk_us]
    · rw [upd_ne (by omega), upd_ne (by omega), upd_ne (by omega), h t' ht s hs w hw]
      rcases (show w = 0 ∨ w = 1 ∨ w = 2 by omega) with rfl | rfl | rfl
      · rw [va_up_ne _ _ (by decide), va_up_ne _ _ (by decide), va_up_self, upd_ne q2]
      · rw [va_up_ne _ _ (by decide), va_up_self, upd_ne q2]
      · rw [va_up_self, upd_ne q2]
  · rw [va_up_ne _ _ q, upd_ne (by omega), upd_ne (by omega), upd_ne (by omega), h t' ht s hs w hw]
theorem S_write {N : Nat} {mi : Nat → Int32} {lo : Int64} {dr hd : Nat → Int32} {ig tr : Nat → Nat → Int32} {tw : Nat → Nat → Nat → Int32} {en : Nat → Int32} {vf : Nat → Nat → Int32} {rw : Nat → Int32} {da : Nat → Nat → Int32} {di : Nat → Int32} {sm : Int64} (h : Sim N mi lo dr hd ig tr tw en vf rw da di sm) {t j p f g : Int32} (hk : k_write t j p f g = 0) : tw t.toNatClampNeg 0 j.toNatClampNeg = da 16 ((t.toNatClampNeg * 8 + j.toNatClampNeg) * 3) ∧ Sim N mi lo dr hd ig tr (s_wr tw t.toNatClampNeg j.toNatClampNeg p f g) en vf rw (va_up da 16 (d_wr (da 16) ((t.toNatClampNeg * 8 + j.toNatClampNeg) * 3) p f g)) di sm := by
  obtain ⟨⟨⟨hdr, hig, hV, hdl⟩, ⟨ht, hw⟩, ⟨d0, d1, d2, d3, d4, d5, d6, d7, d8, d9, d10, d11, d12⟩, ⟨hI, hE, hT⟩, ⟨⟨hm0, hm1⟩, hg, hb⟩⟩, hhd, ⟨c13, c14, c15, c16⟩, hlo⟩ := h
  unfold k_write at hk
  have h1 := sel0 one_n hk
  have h2 := sel0 one_n h1.2
  have h3 := sel0 two_n h2.2
  have ht3 := in_lt (ix_in (N := 3) h1.1 (by decide))
  have hj8 := in_lt (ix_in (N := 8) h2.1 (by decide))
  have hp : rg p (-1) 47 := fr_r h3.1 (by decide) (by decide)
  have hp2 : p = -1 ∨ vp_in p 48 := by
    by_cases z : p = -1
    · exact Or.inl z
    · refine Or.inr (vp_in_iff.mpr ⟨?_, by have := hp.2; omega⟩)
      have z2 : p.toInt ≠ -1 := fun y => z (Int32.toInt_inj.mp (by rw [y]; decide))
      have := hp.1
      omega
  generalize t.toNatClampNeg = a at ht3 ⊢
  generalize j.toNatClampNeg = b at hj8 ⊢
  have hT2 : TOK tr (s_wr tw a b p f g) := by
    intro k hk2
    refine ⟨(hT k hk2).1, fun s hs => ?_⟩
    unfold s_wr
    by_cases q : k = a
    · subst q
      rw [va_up_self, va_up_ne _ _ (by decide), va_up_ne _ _ (by decide), va_up_self]
      by_cases q2 : s = b
      · subst q2
        rw [pk_us]
        exact hp2
      · rw [upd_ne q2]
        exact (hT k hk2).2 s hs
    · rw [va_up_ne _ _ q]
      exact (hT k hk2).2 s hs
  exact ⟨(hw a ht3 b hj8 0 (by decide)).symm, ⟨⟨hdr, hig, hV, hdl⟩, ⟨ht, wr_eq hw hj8⟩, ⟨d0, d1, d2, d3, d4, d5, d6, d7, d8, d9, d10, d11, d12⟩, ⟨hI, hE, hT2⟩, ⟨⟨hm0, hm1⟩, hg, hb⟩⟩, hhd, ⟨c13, c14, c15, c16⟩, hlo⟩
-- samples
theorem mk_hd_eq {f g : Nat → Int32} {x y : Int32} (h : ∀ i, i < 64 → f i = g i) (e : x = y) : ∀ i, i < 64 → mk_hd f x i = mk_hd g y i := by
  intro i hi
  unfold mk_hd
  by_cases q : i = 0
  · subst q
    rw [pk_us, pk_us, e]
  · rw [upd_ne q, upd_ne q, pk_cpy_in (by omega) (by omega), pk_cpy_in (by omega) (by omega), h _ (by omega)]
abbrev SR (N : Nat) (dr : Nat → Int32) (ig tr : Nat → Nat → Int32) (tw : Nat → Nat → Nat → Int32) (S : rS) (D : tS) : Prop := Sim N S.1 S.2.1 dr S.2.2.1 ig tr tw S.2.2.2.1 S.2.2.2.2.1 S.2.2.2.2.2 D.1 D.2.1 D.2.2
theorem S_1 {N : Nat} {dr : Nat → Int32} {ig tr : Nat → Nat → Int32} {tw : Nat → Nat → Nat → Int32} {S : rS} {D : tS} (h : SR N dr ig tr tw S D) (hN : 4 * N + 8 < 2 ^ 31) : dP D.1 D.2.1 ∧ smp_r dr ig S.1 tr tw (S.2.2.2.2.1, S.2.2.2.1) S.2.2.2.2.2 = d_smR D.1 D.2.1 ∧ SR (N + 1) dr ig tr tw (mk1 dr ig tr tw S) (dm1 D) := by
  obtain ⟨mi, lo, hd, en, vf, rw⟩ := S
  obtain ⟨da, di, sm⟩ := D
  obtain ⟨hS, hhd, ⟨c13, c14, c15, c16⟩, hlo⟩ := h
  obtain ⟨hP, eR, hS2, e17, e13, e14, e15, e16⟩ := sim_smp hS hN
  refine ⟨hP, eR.symm, ?_, ?_, ⟨?_, ?_, ?_, ?_⟩, ?_⟩
  · exact SimE_mi hS2 (fun k hk => mk_mi_o hk)
  · show ∀ i, i < 64 → d_smA da di 17 i = mk_hd hd (smp_r dr ig mi tr tw (vf, en) rw) i
    rw [e17]
    exact mk_hd_eq hhd eR
  · exact e13.trans (congrArg (fun z => z + 1) c13)
  · refine e14.trans ?_
    rw [eR]
    exact congrArg (fun z => pmx z _) c14
  · exact e15.trans (congrArg (fun z => z + _) c15)
  · refine e16.trans ?_
    rw [eR]
    show di 16 + mk_x _ (da 17 0) = mi 9 + mk_x _ (hd 0)
    have c16' : di 16 = mi 9 := c16
    rw [c16', hhd 0 (by decide)]
  · show sm + Int32.toInt64 (pab (d_smR da di)) = lo + Int32.toInt64 (pab (smp_r dr ig mi tr tw (vf, en) rw))
    have hlo' : sm = lo := hlo
    rw [eR, hlo']
theorem S_N {N : Nat} {dr : Nat → Int32} {ig tr : Nat → Nat → Int32} {tw : Nat → Nat → Nat → Int32} {S : rS} {D : tS} (h : SR N dr ig tr tw S D) : ∀ n : Nat, 4 * (N + n) + 8 < 2 ^ 31 → SR (N + n) dr ig tr tw (mkN dr ig tr tw S n) (dmN D n)
  | 0, _ => h
  | n + 1, hn => (S_1 (S_N h n (by omega)) (by omega)).2.2
theorem S_smp {N : Nat} {mi : Nat → Int32} {lo : Int64} {dr hd : Nat → Int32} {ig tr : Nat → Nat → Int32} {tw : Nat → Nat → Nat → Int32} {en : Nat → Int32} {vf : Nat → Nat → Int32} {rw : Nat → Int32} {da : Nat → Nat → Int32} {di : Nat → Int32} {sm : Int64} (h : Sim N mi lo dr hd ig tr tw en vf rw da di sm) (hN : 4 * N + 8 < 2 ^ 31) : dP da di ∧ smp_r dr ig mi tr tw (vf, en) rw = d_smR da di ∧ SR (N + 1) dr ig tr tw (mk1 dr ig tr tw (mi, lo, hd, en, vf, rw)) (dm1 (da, di, sm)) := S_1 (S := (mi, lo, hd, en, vf, rw)) (D := (da, di, sm)) h hN
theorem S_runD {N : Nat} {mi : Nat → Int32} {lo : Int64} {dr hd : Nat → Int32} {ig tr : Nat → Nat → Int32} {tw : Nat → Nat → Nat → Int32} {en : Nat → Int32} {vf : Nat → Nat → Int32} {rw : Nat → Int32} {da : Nat → Nat → Int32} {di : Nat → Int32} {sm : Int64} (h : Sim N mi lo dr hd ig tr tw en vf rw da di sm) (hN : 4 * (N + 200) + 8 < 2 ^ 31) : ∀ k, k < 200 → dP (dmN (da, di, sm) k).1 (dmN (da, di, sm) k).2.1 := fun k hk => (S_1 (S_N (S := (mi, lo, hd, en, vf, rw)) (D := (da, di, sm)) h k (by omega)) (by omega)).1
theorem S_run {N : Nat} {mi : Nat → Int32} {lo : Int64} {dr hd : Nat → Int32} {ig tr : Nat → Nat → Int32} {tw : Nat → Nat → Nat → Int32} {en : Nat → Int32} {vf : Nat → Nat → Int32} {rw : Nat → Int32} {da : Nat → Nat → Int32} {di : Nat → Int32} {sm : Int64} (h : Sim N mi lo dr hd ig tr tw en vf rw da di sm) (hN : 4 * (N + 200) + 8 < 2 ^ 31) {n : Int32} (hk : k_run n = 0) : (mkN dr ig tr tw (mi, lo, hd, en, vf, rw) n.toNatClampNeg).2.2.1 0 = dmL (da, di, sm) n.toNatClampNeg ∧ SR (N + 200) dr ig tr tw (mkN dr ig tr tw (mi, lo, hd, en, vf, rw) n.toNatClampNeg) (dmN (da, di, sm) n.toNatClampNeg) := by
  unfold k_run at hk
  obtain ⟨k, hk1, hk2, rfl⟩ := fr_nat (sel1 one_n hk)
  rw [nI_clamp (by omega)]
  have h0 : SR N dr ig tr tw (mi, lo, hd, en, vf, rw) (da, di, sm) := h
  obtain ⟨j, rfl⟩ : ∃ j, k = j + 1 := ⟨k - 1, by omega⟩
  refine ⟨?_, Sim_mono (S_N h0 (j + 1) (by omega)) (by omega)⟩
  exact (S_1 (S_N h0 j (by omega)) (by omega)).2.1
theorem S_rOK {N : Nat} {mi : Nat → Int32} {lo : Int64} {dr hd : Nat → Int32} {ig tr : Nat → Nat → Int32} {tw : Nat → Nat → Nat → Int32} {en : Nat → Int32} {vf : Nat → Nat → Int32} {rw : Nat → Int32} {da : Nat → Nat → Int32} {di : Nat → Int32} {sm : Int64} (h : Sim N mi lo dr hd ig tr tw en vf rw da di sm) : rOK N (mi, lo, hd, en, vf, rw) := h.1.2.2.2.1.2.1
