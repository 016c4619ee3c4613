/-! PURE: the class and the reference, one beside the other: a sample -/
set_option maxRecDepth 100000
theorem VR_gv {N : Nat} {c : Int32} {da : Nat → Nat → Int32} {f : Nat → Int32} {v j : Nat} (h : j ≠ v) (hd : VR N da f j) : VR N (d_gv c da v) f j := by
  unfold VR
  rw [d_gv_v c da v 3 h, d_gv_v c da v 4 h, d_gv_v c da v 5 h, d_gv_v c da v 6 h, d_gv_v c da v 7 h, d_gv_v c da v 8 h, d_gv_v c da v 9 h, d_gv_v c da v 10 h, d_gv_v c da v 11 h, d_gv_v c da v 12 h, d_gv_v c da v 13 h]
  exact hd
theorem gk {c : Int32} {da : Nat → Nat → Int32} {v k : Nat} {f : Nat → Int32} {n : Nat} (hk : k = 1 ∨ k = 2) (h : ∀ i, i < n → da k i = f i) : ∀ i, i < n → d_gv c da v k i = f i := by
  rw [d_gv_k c da v (k := k) (by omega)]
  exact h
theorem gi {c : Int32} {da : Nat → Nat → Int32} {v : Nat} {ig : Nat → Nat → Int32} (h : ∀ k, k < 4 → ∀ j, j < 12 → da 2 (12 * k + j) = ig k j) : ∀ k, k < 4 → ∀ j, j < 12 → d_gv c da v 2 (12 * k + j) = ig k j := by
  rw [d_gv_k c da v (k := 2) (by omega)]
  exact h
/-- all four voices go on -/
theorem four {N : Nat} {da : Nat → Nat → Int32} {dr : Nat → Int32} {ig : Nat → Nat → Int32} {c : Int32} {T : Nat → Nat → Int32} (h : ∀ v, v < 4 → VR N da (T v) v) (hV : ∀ v, v < 4 → VOK (T v)) (hI : ∀ k, k < 4 → IOK (ig k)) (hdr : ∀ i, i < 32 → da 1 i = dr i) (hig : ∀ k, k < 4 → ∀ j, j < 12 → da 2 (12 * k + j) = ig k j) (hc : ¬ c < 0) (gain : Int32) :
    (∀ v, v < 4 → VR N (d_4 c da) (gv_f dr (ig (T v 2).toNatClampNeg) c (T v)) v) ∧ d_m c gain da = (0 + e_gr dr ig c (T 0) + e_gr dr ig c (T 1) + e_gr dr ig c (T 2) + e_gr dr ig c (T 3)) * gain / 16 := by
  have a0 := gv_sim (clk := c) (h 0 (by decide)) (hV 0 (by decide)) hI hdr hig hc
  have h1 : VR N (d_gv c da 0) (T 1) 1 := VR_gv (by decide) (h 1 (by decide))
  have a1 := gv_sim (clk := c) h1 (hV 1 (by decide)) hI (gk (Or.inl rfl) hdr) (gi hig) hc
  have h2 : VR N (d_gv c (d_gv c da 0) 1) (T 2) 2 := VR_gv (by decide) (VR_gv (by decide) (h 2 (by decide)))
  have a2 := gv_sim (clk := c) h2 (hV 2 (by decide)) hI (gk (Or.inl rfl) (gk (Or.inl rfl) hdr)) (gi (gi hig)) hc
  have h3 : VR N (d_gv c (d_gv c (d_gv c da 0) 1) 2) (T 3) 3 := VR_gv (by decide) (VR_gv (by decide) (VR_gv (by decide) (h 3 (by decide))))
  have a3 := gv_sim (clk := c) h3 (hV 3 (by decide)) hI (gk (Or.inl rfl) (gk (Or.inl rfl) (gk (Or.inl rfl) hdr))) (gi (gi (gi hig))) hc
  constructor
  · intro v hv
    unfold d_4
    rcases (show v = 0 ∨ v = 1 ∨ v = 2 ∨ v = 3 by omega) with rfl | rfl | rfl | rfl
    · exact VR_gv (by decide) (VR_gv (by decide) (VR_gv (by decide) a0.2))
    · exact VR_gv (by decide) (VR_gv (by decide) a1.2)
    · exact VR_gv (by decide) a2.2
    · exact a3.2
  · unfold d_m e_gr
    rw [a0.1, a1.1, a2.1, a3.1]
-- gates count down
theorem d_dc_s (ga : Nat → Int32) (v : Nat) : d_dc ga v v = if ga v ≤ 0 then ga v else ga v - 1 := by
  unfold d_dc
  split
  · rfl
  · exact pk_us
theorem d_dc_o (ga : Nat → Int32) {v j : Nat} (h : j ≠ v) : d_dc ga v j = ga j := by
  unfold d_dc
  split
  · rfl
  · exact upd_ne h
theorem d_dc4 (ga : Nat → Int32) {v : Nat} (hv : v < 4) : d_dc (d_dc (d_dc (d_dc ga 0) 1) 2) 3 v = if ga v ≤ 0 then ga v else ga v - 1 := by
  rcases (show v = 0 ∨ v = 1 ∨ v = 2 ∨ v = 3 by omega) with rfl | rfl | rfl | rfl
  · rw [d_dc_o _ (by decide), d_dc_o _ (by decide), d_dc_o _ (by decide), d_dc_s]
  · rw [d_dc_o _ (by decide), d_dc_o _ (by decide), d_dc_s, d_dc_o _ (by decide)]
  · rw [d_dc_o _ (by decide), d_dc_s, d_dc_o _ (by decide), d_dc_o _ (by decide)]
  · rw [d_dc_s, d_dc_o _ (by decide), d_dc_o _ (by decide), d_dc_o _ (by decide)]
theorem v_dec_10 (f : Nat → Int32) : v_dec f 10 = if f 10 ≤ 0 then f 10 else f 10 - 1 := by
  unfold v_dec
  split
  · rfl
  · exact pk_us
-- the delay: shifted in the one, turned in the other
theorem dl_shift {L hh : Nat} {dl rw : Nat → Int32} {X : Int32} (hL : hh < L) (h : ∀ i, i < L → dl i = rw ((hh + i) % L)) (i : Nat) (hi : i < L) : upd (va_cpy dl dl 1 0 (L - 1)) (L - 1) X i = upd rw hh X (((hh + 1) % L + i) % L) := by
  have e : ((hh + 1) % L + i) % L = (hh + 1 + i) % L := Nat.mod_add_mod _ _ _
  rw [e]
  by_cases c : i = L - 1
  · subst c
    rw [pk_us, show hh + 1 + (L - 1) = hh + L by omega, Nat.add_mod_right, Nat.mod_eq_of_lt hL, pk_us]
  · rw [upd_ne c, pk_cpy_in (by omega) (by omega), show 1 + (i - 0) = i + 1 by omega, h (i + 1) (by omega), show hh + (i + 1) = hh + 1 + i by omega]
    have hne : (hh + 1 + i) % L ≠ hh := by
      by_cases q : hh + 1 + i < L
      · rw [Nat.mod_eq_of_lt q]; omega
      · rw [Nat.mod_eq_sub_mod (by omega), Nat.mod_eq_of_lt (by omega)]; omega
    rw [upd_ne hne]
theorem p_dl_eq {mi en rw : Nat → Int32} {L hh i : Nat} (e3 : mi 3 = nI L) (e0 : en 0 = nI hh) (hL : L ≤ 200) (hh2 : hh < L) (hi : i < L) : p_dl mi en rw i = rw ((hh + i) % L) := by
  unfold p_dl
  rw [e3, e0, nI_add]
  unfold prm
  rw [pk_rem (by omega) (by omega) (by omega), nI_clamp (by have := Nat.mod_lt (hh + i) (show 0 < L by omega); omega)]
-- clipping
theorem clip_eq (x : Int32) : d_cl (pkp x 32767) x = mk_c (s_clip x) := by
  have hx := Int32.toInt_lt x
  have hx2 := Int32.le_toInt x
  have e1 : (32767 : Int32).toInt = 32767 := by decide
  have e2 : (-32767 : Int32).toInt = -32767 := by decide
  unfold d_cl pkp s_clip
  show (if pmx (-32767) (pmn 32767 x) = x then (0 : Int32) else 1) = _
  unfold pmx pmn
  by_cases a : 32767 < x
  · have a2 := Int32.lt_iff_toInt_lt.mp a
    rw [if_pos a, if_neg (show ¬ x < 32767 by rw [Int32.lt_iff_toInt_lt]; omega), if_pos (show (-32767 : Int32) < 32767 by decide), if_neg (show ¬ (32767 : Int32) = x from fun q => by rw [← q] at a; exact absurd a (by decide))]
    rfl
  · rw [if_neg a]
    have a2 : x.toInt ≤ 32767 := by
      rw [Int32.lt_iff_toInt_lt] at a
      omega
    have m1 : (if x < 32767 then x else 32767) = x := by
      by_cases q : x < 32767
      · rw [if_pos q]
      · rw [if_neg q]
        rw [Int32.lt_iff_toInt_lt] at q
        exact Int32.toInt_inj.mp (by omega)
    rw [m1]
    by_cases b : -32767 ≤ x
    · rw [if_pos b]
      have m2 : (if -32767 < x then x else -32767) = x := by
        by_cases q : -32767 < x
        · rw [if_pos q]
        · rw [if_neg q]
          rw [Int32.lt_iff_toInt_lt] at q
          rw [Int32.le_iff_toInt_le] at b
          exact Int32.toInt_inj.mp (by omega)
      rw [m2, if_pos rfl]
      rfl
    · rw [if_neg b]
      rw [Int32.le_iff_toInt_le] at b
      rw [if_neg (show ¬ -32767 < x by rw [Int32.lt_iff_toInt_lt]; omega), if_neg (show ¬ (-32767 : Int32) = x from fun q => by rw [← q] at b; exact b (Int.le_refl _))]
      rfl
theorem d_go_o (J : Nat → Int32) {k : Nat} (h9 : k ≠ 9) (h10 : k ≠ 10) : d_go J k = J k := by
  unfold d_go
  split
  · rfl
  · split
    · rw [upd_ne h9, upd_ne h10, upd_ne h10]
    · exact upd_ne h10
theorem d_go_i (J : Nat → Int32) (t i h : Int32) {k : Nat} (hk : k = 9 ∨ k = 10) : d_go (d_i5 J t i h) k = d_go J k := by
  unfold d_go
  rw [d_i5_8, d_i5_9, d_i5_10, d_i5_11]
  split
  · rcases hk with rfl | rfl <;> rfl
  · split
    · rcases hk with rfl | rfl <;> rfl
    · rcases hk with rfl | rfl <;> rfl
theorem d_i5_o (J : Nat → Int32) (t i h : Int32) {k : Nat} (hk : k < 12) : d_i5 J t i h k = J k := by
  unfold d_i5
  rw [upd_ne (by omega), upd_ne (by omega), upd_ne (by omega), upd_ne (by omega), upd_ne (by omega)]
/-- a sample: the same number, and what holds goes on -/
theorem sim_smp {N : Nat} {mi dr : Nat → Int32} {ig tr : Nat → Nat → Int32} {tw : Nat → Nat → Nat → Int32} {en : Nat → Int32} {vf : Nat → Nat → Int32} {rw : Nat → Int32} {da : Nat → Nat → Int32} {di : Nat → Int32} (h : SimE N mi dr ig tr tw en vf rw da di) (hN : 4 * N + 8 < 2 ^ 31) :
    dP da di ∧ d_smR da di = smp_r dr ig mi tr tw (vf, en) rw ∧ SimE (N + 1) mi dr ig tr tw (smp_e dr ig mi tr tw (vf, en) rw) (smp_v dr ig mi tr tw (vf, en)) (smp_w dr ig mi tr tw (vf, en) rw) (d_smA da di) (d_smD da di) ∧
    d_smA da di 17 = mk_hd (da 17) (d_smR da di) ∧ (d_smD da di 13 = di 13 + 1 ∧ d_smD da di 14 = pmx (di 14) (pab (d_smR da di)) ∧ d_smD da di 15 = di 15 + mk_c (smp_e dr ig mi tr tw (vf, en) rw 8) ∧ d_smD da di 16 = di 16 + mk_x (d_smR da di) (da 17 0)) := by
  have hh := h
  obtain ⟨⟨hdr, hig, hV, hdl⟩, ⟨ht, hw⟩, ⟨d0, d1, d2, d3, d4, d5, d6, d7, d8, d9, d10, d11, d12⟩, ⟨hI, hE, hT⟩, ⟨hm, hg, hb⟩⟩ := h
  obtain ⟨⟨rV, r0, r1, rb⟩, ⟨n5, n6, n7⟩, p0, p1⟩ := TR_tr hh hN
  have eE := eOK_s (dr := dr) (ig := ig) (rw := rw) hE hT (show N + 1 < 2 ^ 31 by omega)
  have hV1 := VOK_tr (mi := mi) (S := (vf, en)) hT hE.2.1 hE.1
  have o : ∀ k, k ≠ 2 → k ≠ 3 → k ≠ 7 → k ≠ 5 → k ≠ 6 → (e_tr mi tr tw (vf, en)).2 k = en k := fun k a b c d e => e_tr_o a b c d e
  have F1 : (d_gt da di).1 1 = da 1 := d_gt_o da di (by decide)
  have F2 : (d_gt da di).1 2 = da 2 := d_gt_o da di (by decide)
  have F14 : (d_gt da di).1 14 = da 14 := d_gt_o da di (by decide)
  have F15 : (d_gt da di).1 15 = da 15 := d_gt_o da di (by decide)
  have F16 : (d_gt da di).1 16 = da 16 := d_gt_o da di (by decide)
  have F17 : (d_gt da di).1 17 = da 17 := d_gt_o da di (by decide)
  have Ji : ∀ k, k ≠ 0 → k ≠ 1 → k ≠ 11 → (d_gt da di).2 k = di k := fun k a b c => d_gt_i da di a b c
  have hdI : dI ((d_gt da di).1 2) := by
    rw [F2]
    intro k hk
    have q := hI k hk
    unfold IOK at q ⊢
    simp only [hig k hk 0 (by decide), hig k hk 1 (by decide), hig k hk 2 (by decide), hig k hk 3 (by decide), hig k hk 4 (by decide), hig k hk 5 (by decide), hig k hk 6 (by decide), hig k hk 7 (by decide), hig k hk 8 (by decide), hig k hk 9 (by decide), hig k hk 10 (by decide), hig k hk 11 (by decide)]
    exact q
  have hc : ¬ (d_gt da di).2 12 < 0 := by
    rw [Ji 12 (by decide) (by decide) (by decide), d12]
    exact hE.hc
  have hdP : dP da di := by
    refine ⟨by rw [d9]; exact hE.2.1, fun v hv => ?_, hdI, hc, by rw [Ji 3 (by decide) (by decide) (by decide), d3]; exact hE.2.2.2.1⟩
    obtain ⟨-, -, q5, q6, -, q8, q9, -⟩ := rV v hv
    have z := hV1 v hv
    unfold dV
    rw [q5, q6, q8, q9]
    exact z
  -- the voices
  have hclk : (d_gt da di).2 12 = (e_tr mi tr tw (vf, en)).2 1 := by rw [Ji 12 (by decide) (by decide) (by decide), d12, o 1 (by decide) (by decide) (by decide) (by decide) (by decide)]
  obtain ⟨f1, f2⟩ := four (c := (d_gt da di).2 12) (dr := dr) (ig := ig) rV hV1 hI (by rw [F1]; exact hdr) (by rw [F2]; exact hig) hc ((d_gt da di).2 2)
  have em : d_m ((d_gt da di).2 12) ((d_gt da di).2 2) (d_gt da di).1 = smp_m dr ig mi tr tw (vf, en) := by
    rw [f2]
    unfold smp_m e_mm
    rw [hclk, Ji 2 (by decide) (by decide) (by decide), d2]
  have G14 : d_4 ((d_gt da di).2 12) (d_gt da di).1 14 = da 14 := (d_4_o _ _ (by decide)).trans F14
  have G17 : d_4 ((d_gt da di).2 12) (d_gt da di).1 17 = da 17 := (d_4_o _ _ (by decide)).trans F17
  have e0 : (e_tr mi tr tw (vf, en)).2 0 = en 0 := o 0 (by decide) (by decide) (by decide) (by decide) (by decide)
  have j3 : (d_gt da di).2 3 = mi 3 := by rw [Ji 3 (by decide) (by decide) (by decide), d3]
  have j4 : (d_gt da di).2 4 = mi 4 := by rw [Ji 4 (by decide) (by decide) (by decide), d4]
  have j5 : (d_gt da di).2 5 = mi 5 := by rw [Ji 5 (by decide) (by decide) (by decide), d5]
  -- the delay's place
  have hpos : ¬ mi 3 ≤ 0 → ∃ L hp : Nat, mi 3 = nI L ∧ en 0 = nI hp ∧ L ≤ 200 ∧ hp < L := by
    intro q
    obtain ⟨L, hL, hL2, e⟩ := rg_nI hE.2.2.2.1
    have z := hE.2.2.2.2.1 q
    rw [e, nI_clamp hL2] at z
    obtain ⟨p, hp, e2⟩ := vp_in_of z hL2
    exact ⟨L, p, e, e2, by omega, hp⟩
  have ei : d_sI (d_gt da di) (d_4 ((d_gt da di).2 12) (d_gt da di).1) (smp_m dr ig mi tr tw (vf, en)) = s_made mi (smp_m dr ig mi tr tw (vf, en)) rw (e_tr mi tr tw (vf, en)).2 := by
    unfold d_sI d_its s_made
    rw [j3, j4, G14, e0]
    by_cases q : mi 3 ≤ 0
    · rw [if_pos q, if_pos q]
    · rw [if_neg q, if_neg q]
      obtain ⟨L, p, e3, ep, hL, hp⟩ := hpos q
      rw [hdl 0 (by rw [e3, nI_clamp (by omega)]; omega), p_dl_eq e3 ep hL hp (by omega), Nat.add_zero, Nat.mod_eq_of_lt hp, ep, nI_clamp (by omega)]
  have eR : d_smR da di = smp_r dr ig mi tr tw (vf, en) rw := by
    unfold d_smR smp_r
    rw [em, ei]
  refine ⟨hdP, eR, ?_, ?_, ?_, ?_, ?_, ?_⟩
  · have Ae : ∀ k, k ≠ 12 → k ≠ 14 → k ≠ 17 → d_smA da di k = d_4 ((d_gt da di).2 12) (d_gt da di).1 k := by
      intro k a b c
      unfold d_smA d_sA
      rw [va_up_ne _ _ a, va_up_ne _ _ c, va_up_ne _ _ b]
    have A12 : d_smA da di 12 = d_dc (d_dc (d_dc (d_dc (d_4 ((d_gt da di).2 12) (d_gt da di).1 12) 0) 1) 2) 3 := rfl
    have A14 : d_smA da di 14 = d_dl (d_gt da di).2 (smp_m dr ig mi tr tw (vf, en)) (da 14) := by
      show d_dl (d_gt da di).2 (d_m ((d_gt da di).2 12) ((d_gt da di).2 2) (d_gt da di).1) (d_4 ((d_gt da di).2 12) (d_gt da di).1 14) = _
      rw [em, G14]
    have Dk : ∀ k, k < 12 → k ≠ 9 → k ≠ 10 → d_smD da di k = (d_gt da di).2 k := by
      intro k a b c
      unfold d_smD d_sD
      rw [d_go_o _ b c, d_i5_o _ _ _ _ a]
    have D9 : ∀ k, (k = 9 ∨ k = 10) → d_smD da di k = d_go (d_gt da di).2 k := by
      intro k hk
      unfold d_smD d_sD
      rw [d_go_i _ _ _ _ hk]
    have D12 : d_smD da di 12 = (d_gt da di).2 12 + 1 := by
      unfold d_smD d_sD
      rw [d_go_o _ (by decide) (by decide)]
      exact pk_us
    have so : ∀ k, k ≠ 0 → k ≠ 1 → k ≠ 8 → smp_e dr ig mi tr tw (vf, en) rw k = (e_tr mi tr tw (vf, en)).2 k := fun k a b c => smp_e_o a b c
    have n11 : (d_gt da di).2 11 = (e_tr mi tr tw (vf, en)).2 7 := by
      rw [← n7, d_go_o _ (by decide) (by decide)]
    refine ⟨⟨?_, ?_, ?_, ?_⟩, ⟨?_, ?_⟩, ⟨?_, ?_, ?_, ?_, ?_, ?_, ?_, ?_, ?_, ?_, ?_, ?_, ?_⟩, ⟨hI, eE, hT⟩, hm, ⟨?_, ?_⟩, ?_⟩
    · rw [Ae 1 (by decide) (by decide) (by decide), d_4_o _ _ (by decide), F1]; exact hdr
    · rw [Ae 2 (by decide) (by decide) (by decide), d_4_o _ _ (by decide), F2]; exact hig
    · intro v hv
      have q := (f1 v hv).mono (show 4 * N + 3 ≤ 4 * (N + 1) by omega)
      rw [hclk] at q
      obtain ⟨q1, q2, q3, q4, q5, q6, q7, q8, q9, q10, q11, q12⟩ := q
      show VR _ _ (e_gf dr ig ((e_tr mi tr tw (vf, en)).2 1) ((e_tr mi tr tw (vf, en)).1 v)) v
      unfold e_gf VR
      rw [Ae 3 (by decide) (by decide) (by decide), Ae 4 (by decide) (by decide) (by decide), Ae 5 (by decide) (by decide) (by decide), Ae 6 (by decide) (by decide) (by decide), Ae 7 (by decide) (by decide) (by decide), Ae 8 (by decide) (by decide) (by decide), Ae 9 (by decide) (by decide) (by decide), Ae 10 (by decide) (by decide) (by decide), Ae 11 (by decide) (by decide) (by decide), Ae 13 (by decide) (by decide) (by decide), A12, d_dc4 _ hv, v_dec_10, hclk]
      rw [v_dec_o _ (show 0 ≠ 10 by decide), v_dec_o _ (show 1 ≠ 10 by decide), v_dec_o _ (show 2 ≠ 10 by decide), v_dec_o _ (show 3 ≠ 10 by decide), v_dec_o _ (show 4 ≠ 10 by decide), v_dec_o _ (show 5 ≠ 10 by decide), v_dec_o _ (show 6 ≠ 10 by decide), v_dec_o _ (show 7 ≠ 10 by decide), v_dec_o _ (show 8 ≠ 10 by decide), v_dec_o _ (show 9 ≠ 10 by decide), q10]
      exact ⟨q1, q2, q3, q4, q5, q6, q7, q8, q9, rfl, q11, q12⟩
    · intro i hi
      rw [A14]
      by_cases q : mi 3 ≤ 0
      · exfalso
        obtain ⟨L, hL, hL2, e⟩ := rg_nI hE.2.2.2.1
        rw [e, nI_clamp hL2] at hi
        rw [e] at q
        exact nI_nle (by omega) hL2 q
      · obtain ⟨L, p, e3, ep, hL, hp⟩ := hpos q
        have hi2 : i < L := by rwa [e3, nI_clamp (by omega)] at hi
        have e0' : smp_e dr ig mi tr tw (vf, en) rw 0 = nI ((p + 1) % L) := by
          rw [smp_e_0 q]
          show prm (en 0 + 1) (mi 3) = _
          rw [ep, e3, nI_1]
          unfold prm
          exact pk_rem (by omega) (by omega) (by omega)
        rw [p_dl_eq e3 e0' hL (Nat.mod_lt _ (by omega)) hi2]
        have hdl2 : ∀ i, i < L → da 14 i = rw ((p + i) % L) := fun i hi => by rw [hdl i (by rw [e3, nI_clamp (by omega)]; exact hi), p_dl_eq e3 ep hL hp hi]
        have s := dl_shift (X := pkp (smp_m dr ig mi tr tw (vf, en) + rw p * mi 5 / 256) 100000) hp hdl2 i hi2
        have lw : d_dl (d_gt da di).2 (smp_m dr ig mi tr tw (vf, en)) (da 14) = upd (va_cpy (da 14) (da 14) 1 0 (L - 1)) (L - 1) (pkp (smp_m dr ig mi tr tw (vf, en) + rw p * mi 5 / 256) 100000) := by
          unfold d_dl
          rw [j3, j5, if_neg q, e3, hdl2 0 (by omega), Nat.add_zero, Nat.mod_eq_of_lt hp, show nI L - 1 = nI (L - 1) from pk_sub (a := L) (b := 1) (by omega), nI_clamp (by omega)]
        have sw : smp_w dr ig mi tr tw (vf, en) rw = upd rw p (pkp (smp_m dr ig mi tr tw (vf, en) + rw p * mi 5 / 256) 100000) := by
          unfold smp_w s_row
          rw [if_neg q, e0, ep, nI_clamp (by omega)]
        rw [lw, sw]
        exact s
    · rw [Ae 15 (by decide) (by decide) (by decide), d_4_o _ _ (by decide), F15]; exact ht
    · rw [Ae 16 (by decide) (by decide) (by decide), d_4_o _ _ (by decide), F16]; exact hw
    · rw [Dk 0 (by decide) (by decide) (by decide), so 2 (by decide) (by decide) (by decide)]; exact r0
    · rw [Dk 1 (by decide) (by decide) (by decide), so 3 (by decide) (by decide) (by decide)]; exact r1
    · rw [Dk 2 (by decide) (by decide) (by decide), Ji 2 (by decide) (by decide) (by decide)]; exact d2
    · rw [Dk 3 (by decide) (by decide) (by decide)]; exact j3
    · rw [Dk 4 (by decide) (by decide) (by decide)]; exact j4
    · rw [Dk 5 (by decide) (by decide) (by decide)]; exact j5
    · rw [Dk 6 (by decide) (by decide) (by decide), Ji 6 (by decide) (by decide) (by decide)]; exact d6
    · rw [Dk 7 (by decide) (by decide) (by decide), Ji 7 (by decide) (by decide) (by decide)]; exact d7
    · rw [Dk 8 (by decide) (by decide) (by decide), Ji 8 (by decide) (by decide) (by decide), so 4 (by decide) (by decide) (by decide), o 4 (by decide) (by decide) (by decide) (by decide) (by decide)]; exact d8
    · rw [D9 9 (Or.inl rfl), so 5 (by decide) (by decide) (by decide)]; exact n5
    · rw [D9 10 (Or.inr rfl), so 6 (by decide) (by decide) (by decide)]; exact n6
    · rw [Dk 11 (by decide) (by decide) (by decide), so 7 (by decide) (by decide) (by decide)]; exact n11
    · rw [D12, smp_e_1, Ji 12 (by decide) (by decide) (by decide), d12]
    · rw [so 6 (by decide) (by decide) (by decide)]; exact p0
    · rw [so 6 (by decide) (by decide) (by decide), so 7 (by decide) (by decide) (by decide)]; exact p1
    · rw [so 2 (by decide) (by decide) (by decide)]
      exact ⟨rb.1, by have := rb.2; omega⟩
  · show mk_hd (d_4 ((d_gt da di).2 12) (d_gt da di).1 17) (d_smR da di) = _
    rw [G17]
  · unfold d_smD d_sD
    rw [d_go_o _ (by decide) (by decide)]
    show (d_gt da di).2 13 + 1 = _
    rw [Ji 13 (by decide) (by decide) (by decide)]
  · unfold d_smD d_sD
    rw [d_go_o _ (by decide) (by decide)]
    show pmx ((d_gt da di).2 14) (pab (d_smR da di)) = _
    rw [Ji 14 (by decide) (by decide) (by decide)]
  · unfold d_smD d_sD
    rw [d_go_o _ (by decide) (by decide)]
    show (d_gt da di).2 15 + d_cl (pkp (d_sI (d_gt da di) (d_4 ((d_gt da di).2 12) (d_gt da di).1) (d_m ((d_gt da di).2 12) ((d_gt da di).2 2) (d_gt da di).1)) 32767) (d_sI (d_gt da di) (d_4 ((d_gt da di).2 12) (d_gt da di).1) (d_m ((d_gt da di).2 12) ((d_gt da di).2 2) (d_gt da di).1)) = _
    rw [Ji 15 (by decide) (by decide) (by decide), em, ei, clip_eq]
    have e8 : smp_e dr ig mi tr tw (vf, en) rw 8 = s_clip (s_made mi (smp_m dr ig mi tr tw (vf, en)) rw (e_tr mi tr tw (vf, en)).2) := by
      unfold smp_e s_en
      exact pk_us
    rw [e8]
  · unfold d_smD d_sD
    rw [d_go_o _ (by decide) (by decide)]
    show (d_gt da di).2 16 + mk_x (d_smR da di) (d_4 ((d_gt da di).2 12) (d_gt da di).1 17 0) = _
    rw [Ji 16 (by decide) (by decide) (by decide), G17]
