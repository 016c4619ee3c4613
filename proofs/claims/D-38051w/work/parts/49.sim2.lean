/-! PURE: the class and the reference, one beside the other: a voice goes on -/
set_option maxRecDepth 100000
theorem tdiv_rg {a b c : Int} (hb : 0 < b) (h1 : -(c * b) ≤ a) (h2 : a ≤ c * b) : -c ≤ a.tdiv b ∧ a.tdiv b ≤ c := by
  rcases Int.le_total 0 a with h | h
  · rw [Int.tdiv_eq_ediv_of_nonneg h]
    have h0 : 0 ≤ a / b := Int.ediv_nonneg h (Int.le_of_lt hb)
    have h3 : a / b ≤ c := Int.ediv_le_of_le_mul hb h2
    omega
  · have e : a.tdiv b = -((-a) / b) := by rw [← Int.tdiv_eq_ediv_of_nonneg (by omega), Int.neg_tdiv, Int.neg_neg]
    rw [e]
    have h0 : 0 ≤ -a / b := Int.ediv_nonneg (by omega) (Int.le_of_lt hb)
    have h3 : -a / b ≤ c := Int.ediv_le_of_le_mul hb (by omega)
    omega
theorem mul_rg {a b A B : Int} (h1 : -A ≤ a) (h2 : a ≤ A) (h3 : 0 ≤ b) (h4 : b ≤ B) : -(A * B) ≤ a * b ∧ a * b ≤ A * B := by
  have hA : 0 ≤ A := by omega
  have k1 : a * b ≤ A * b := Int.mul_le_mul_of_nonneg_right h2 h3
  have k2 : A * b ≤ A * B := Int.mul_le_mul_of_nonneg_left h4 hA
  have k3 : -A * b ≤ a * b := Int.mul_le_mul_of_nonneg_right h1 h3
  rw [Int.neg_mul] at k3
  omega
/-- the triangle wave's values -/
def tri (k : Int32) : Int32 := if 16 ≤ k then 1000 - 125 * (k - 16) else -1000 + 125 * k
theorem pval_2 (dr : Nat → Int32) (k : Int32) : pval dr 2 k = tri k := by
  unfold pval tri
  rw [if_neg (by decide), if_neg (by decide), if_pos rfl]
theorem tri_ok : ∀ j : Nat, j < 32 → ((-1000 ≤ (tri (nI j)).toInt ∧ (tri (nI j)).toInt ≤ 1000) ∧ (-125 ≤ (tri (prm (nI j + 1) 32) - tri (nI j)).toInt ∧ (tri (prm (nI j + 1) 32) - tri (nI j)).toInt ≤ 125)) := by decide +kernel
theorem tri_rg (dr : Nat → Int32) {ph : Int32} (h : vp_in ph 65536) : rg (pwav dr 2 ph) (-1125) 1125 := by
  obtain ⟨p, hp, rfl⟩ := vp_in_of h (by decide)
  unfold pwav
  have e1 : nI p / 2048 = nI (p / 2048) := pk_div (d := 2048) (by omega) (by decide) (by decide)
  have e2 : prm (nI p) 2048 = nI (p % 2048) := pk_rem (d := 2048) (by omega) (by decide) (by decide)
  rw [e1, e2, pval_2, pval_2]
  obtain ⟨⟨a1, a2⟩, ⟨b1, b2⟩⟩ := tri_ok (p / 2048) (by omega)
  generalize tri (nI (p / 2048)) = x at a1 a2 b1 b2 ⊢
  generalize tri (prm (nI (p / 2048) + 1) 32) - x = y at b1 b2 ⊢
  have ht : (nI (p % 2048)).toInt = (p % 2048 : Nat) := nI_toInt (by omega)
  have hm := mul_rg (A := 125) (B := 2047) b1 b2 (b := (nI (p % 2048)).toInt) (by omega) (by omega)
  have e3 : (y * nI (p % 2048)).toInt = y.toInt * (nI (p % 2048)).toInt := Jvm.Kit.i32_mul (by omega) (by omega)
  have e4 : (y * nI (p % 2048) / 2048).toInt = (y * nI (p % 2048)).toInt.tdiv 2048 := Jvm.Kit.i32_div (y := 2048) (by rintro ⟨-, q⟩; exact absurd q (by decide))
  have hd := tdiv_rg (a := (y * nI (p % 2048)).toInt) (b := 2048) (c := 125) (by decide) (by rw [e3]; omega) (by rw [e3]; omega)
  rw [← e4] at hd
  unfold rg
  rw [Jvm.Kit.i32_add (by omega) (by omega)]
  omega
theorem str_rg {p : Int32} (h : vp_in p 48) : rg (pstr p) 256 4000 := by
  obtain ⟨j, hj, rfl⟩ := vp_in_of h (by decide)
  have key : ∀ j : Nat, j < 48 → (256 ≤ (pstr (nI j)).toInt ∧ (pstr (nI j)).toInt ≤ 4000) := by decide +kernel
  exact key j hj
theorem bend_rg {q10 w : Int32} (hq : rg q10 0 64) (hw : rg w (-1125) 1125) : rg (q10 * w / 1000) (-72) 72 := by
  have hm := mul_rg (A := 1125) (B := 64) hw.1 hw.2 hq.1 hq.2
  rw [Int.mul_comm] at hm
  have e3 : (q10 * w).toInt = q10.toInt * w.toInt := Jvm.Kit.i32_mul (by omega) (by omega)
  have e4 : (q10 * w / 1000).toInt = (q10 * w).toInt.tdiv 1000 := Jvm.Kit.i32_div (y := 1000) (by rintro ⟨-, q⟩; exact absurd q (by decide))
  have hd := tdiv_rg (a := (q10 * w).toInt) (b := 1000) (c := 72) (by decide) (by rw [e3]; omega) (by rw [e3]; omega)
  rw [← e4] at hd
  exact hd
-- phases: floorMod in the one, a whole turn more in the other
theorem prm_pos {y : Int32} (h : 0 ≤ y.toInt) : (prm y 65536).toInt = y.toInt % 65536 := by
  rw [prm_toInt, show (65536 : Int32).toInt = 65536 by decide, Int.tmod_eq_emod_of_nonneg h]
theorem ph_1 {x st b : Int32} (hx : vp_in x 65536) (hs : rg st 256 4000) (hb : rg b (-72) 72) : prm (x + st + b + 65536) 65536 = pfm (x + (st + b)) 65536 := by
  obtain ⟨x1, x2⟩ := vp_in_iff.mp hx
  obtain ⟨s1, s2⟩ := hs
  obtain ⟨b1, b2⟩ := hb
  have e0 : (65536 : Int32).toInt = 65536 := by decide
  have e1 : (x + st).toInt = x.toInt + st.toInt := Jvm.Kit.i32_add (by omega) (by omega)
  have e2 : (x + st + b).toInt = x.toInt + st.toInt + b.toInt := by rw [Jvm.Kit.i32_add (by omega) (by omega), e1]
  have e3 : (x + st + b + 65536).toInt = x.toInt + st.toInt + b.toInt + 65536 := by rw [Jvm.Kit.i32_add (by omega) (by omega), e2, e0]
  have e4 : (st + b).toInt = st.toInt + b.toInt := Jvm.Kit.i32_add (by omega) (by omega)
  have e5 : (x + (st + b)).toInt = x.toInt + st.toInt + b.toInt := by rw [Jvm.Kit.i32_add (by omega) (by omega), e4]; omega
  apply Int32.toInt_inj.mp
  rw [pfm_toInt, prm_pos (by omega), e3, e5]
  omega
theorem ph_2 {x st b d : Int32} (hx : vp_in x 65536) (hs : rg st 256 4000) (hb : rg b (-72) 72) (hd : rg d (-64) 64) : prm (x + st + b + d + 65536) 65536 = pfm (x + (st + b) + d) 65536 := by
  obtain ⟨x1, x2⟩ := vp_in_iff.mp hx
  obtain ⟨s1, s2⟩ := hs
  obtain ⟨b1, b2⟩ := hb
  obtain ⟨d1, d2⟩ := hd
  have e0 : (65536 : Int32).toInt = 65536 := by decide
  have e1 : (x + st).toInt = x.toInt + st.toInt := Jvm.Kit.i32_add (by omega) (by omega)
  have e2 : (x + st + b).toInt = x.toInt + st.toInt + b.toInt := by rw [Jvm.Kit.i32_add (by omega) (by omega), e1]
  have e6 : (x + st + b + d).toInt = x.toInt + st.toInt + b.toInt + d.toInt := by rw [Jvm.Kit.i32_add (by omega) (by omega), e2]
  have e3 : (x + st + b + d + 65536).toInt = x.toInt + st.toInt + b.toInt + d.toInt + 65536 := by rw [Jvm.Kit.i32_add (by omega) (by omega), e6, e0]
  have e4 : (st + b).toInt = st.toInt + b.toInt := Jvm.Kit.i32_add (by omega) (by omega)
  have e5 : (x + (st + b)).toInt = x.toInt + st.toInt + b.toInt := by rw [Jvm.Kit.i32_add (by omega) (by omega), e4]; omega
  have e7 : (x + (st + b) + d).toInt = x.toInt + st.toInt + b.toInt + d.toInt := by rw [Jvm.Kit.i32_add (by omega) (by omega), e5]
  apply Int32.toInt_inj.mp
  rw [pfm_toInt, prm_pos (by omega), e3, e7]
  omega
/-- a wave asks of the drawn one no more than its 32 -/
theorem pwav_c {dr ds : Nat → Int32} (h : ∀ i, i < 32 → ds i = dr i) {w ph : Int32} (hp : vp_in ph 65536) : pwav ds w ph = pwav dr w ph := by
  have hv : ∀ k : Int32, vp_in k 32 → pval ds w k = pval dr w k := by
    intro k hk
    unfold pval
    rw [h _ (in_lt hk)]
  unfold pwav
  rw [hv _ (pw_1 hp), hv _ (pw_2 hp)]
-- an instrument's numbers
theorem dq_eq {da : Nat → Nat → Int32} {ig : Nat → Nat → Int32} {f : Nat → Int32} {v : Nat} (hig : ∀ k, k < 4 → ∀ j, j < 12 → da 2 (12 * k + j) = ig k j) (h5 : da 5 v = f 2) (hf : vp_in (f 2) 4) {j : Nat} (hj : j < 12) : d_qa da v (nI j) = ig (f 2).toNatClampNeg j := by
  obtain ⟨k, hk, e⟩ := vp_in_of hf (by decide)
  unfold d_qa d_q
  rw [h5, e, show (12 : Int32) = nI 12 from rfl, pk_mul, nI_add, nI_clamp (by omega), nI_clamp (by omega), Nat.mul_comm]
  exact hig k hk j hj
/-- the level -/
theorem lv_eq {da : Nat → Nat → Int32} {q f : Nat → Int32} {v : Nat} (h3 : da 3 v = f 0) (h4 : da 4 v = f 1) (q4 : d_qa da v 4 = q 4) (q5 : d_qa da v 5 = q 5) (q6 : d_qa da v 6 = q 6) (q7 : d_qa da v 7 = q 7) : d_lv da v 3 v = v_grow q f 0 ∧ d_lv da v 4 v = v_grow q f 1 := by
  have us : ∀ (g : Nat → Int32) (x : Int32), upd g v x v = x := fun g x => pk_us
  show d_ls (d_qa da v) (da 3) (da 4) v v = _ ∧ d_ll (d_qa da v) (da 3) (da 4) v v = _
  unfold d_ls d_ll v_grow
  rw [h3, h4, q4, q5, q6, q7]
  have g1 : ∀ l t s : Int32, v_g1 f l t s 0 = (if l = t then s else f 0) ∧ v_g1 f l t s 1 = l := by
    intro l t s
    unfold v_g1
    split
    · exact ⟨pk_us, by rw [upd_ne (by decide), pk_us]⟩
    · exact ⟨upd_ne (by decide), pk_us⟩
  by_cases c1 : f 0 = 1
  · rw [if_pos c1, if_pos c1, if_pos c1, (g1 _ _ _).1, (g1 _ _ _).2]
    refine ⟨?_, us _ _⟩
    split
    · exact us _ _
    · exact h3
  · rw [if_neg c1, if_neg c1, if_neg c1]
    by_cases c2 : f 0 = 2
    · rw [if_pos c2, if_pos c2, if_pos c2, (g1 _ _ _).1, (g1 _ _ _).2]
      refine ⟨?_, us _ _⟩
      split
      · exact us _ _
      · exact h3
    · rw [if_neg c2, if_neg c2, if_neg c2]
      by_cases c3 : f 0 = 3
      · rw [if_pos c3, if_pos c3, if_pos c3]
        exact ⟨h3, us _ _⟩
      · rw [if_neg c3, if_neg c3, if_neg c3, (g1 _ _ _).1, (g1 _ _ _).2]
        refine ⟨?_, us _ _⟩
        split
        · exact us _ _
        · exact h3
theorem grow_rg {q f : Nat → Int32} (h : rg (f 0) 0 4) : rg (v_grow q f 0) 0 4 := by
  have g1 : ∀ l t s : Int32, rg s 0 4 → rg (v_g1 f l t s 0) 0 4 := by
    intro l t s hs
    unfold v_g1
    split
    · rw [pk_us]; exact hs
    · rw [upd_ne (by decide)]; exact h
  unfold v_grow
  split
  · exact g1 _ _ _ ⟨by decide, by decide⟩
  · split
    · exact g1 _ _ _ ⟨by decide, by decide⟩
    · split
      · rw [upd_ne (by decide)]; exact h
      · exact g1 _ _ _ ⟨by decide, by decide⟩
theorem gv_sim {N : Nat} {da : Nat → Nat → Int32} {dr : Nat → Int32} {ig : Nat → Nat → Int32} {clk : Int32} {f : Nat → Int32} {v : Nat} (h : VR N da f v) (hV : VOK f) (hI : ∀ k, k < 4 → IOK (ig k)) (hdr : ∀ i, i < 32 → da 1 i = dr i) (hig : ∀ k, k < 4 → ∀ j, j < 12 → da 2 (12 * k + j) = ig k j) (hc : ¬ clk < 0) :
    d_gr da v = gv_r dr (ig (f 2).toNatClampNeg) clk f ∧ VR N (d_gv clk da v) (gv_f dr (ig (f 2).toNatClampNeg) clk f) v := by
  have hq : ∀ j : Nat, j < 12 → d_qa da v (nI j) = ig (f 2).toNatClampNeg j := fun j hj => dq_eq hig h.2.2.1 hV.1 hj
  have hQ : IOK (ig (f 2).toNatClampNeg) := hI _ (in_lt hV.1)
  generalize ig (f 2).toNatClampNeg = q at hq hQ ⊢
  have h0 := h
  obtain ⟨h1, h2, h3, h4, h5, h6, h7, h8, h9, h10, h11, h12⟩ := h
  unfold d_gr d_gv gv_r gv_f
  rw [h1]
  by_cases c0 : f 0 = 0
  · rw [if_pos c0, if_pos c0, if_pos c0, if_pos c0]
    exact ⟨rfl, h0⟩
  · rw [if_neg c0, if_neg c0, if_neg c0, if_neg c0]
    obtain ⟨l3, l4⟩ := lv_eq (q := q) h1 h2 (hq 4 (by decide)) (hq 5 (by decide)) (hq 6 (by decide)) (hq 7 (by decide))
    have hG : VR N (d_lv da v) (v_grow q f) v := by
      unfold VR
      rw [v_grow_o q f (by decide) (by decide), v_grow_o q f (by decide) (by decide), v_grow_o q f (by decide) (by decide), v_grow_o q f (by decide) (by decide), v_grow_o q f (by decide) (by decide), v_grow_o q f (by decide) (by decide), v_grow_o q f (by decide) (by decide), v_grow_o q f (by decide) (by decide), v_grow_o q f (by decide) (by decide)]
      exact ⟨l3, l4, h3, h4, h5, h6, h7, h8, h9, h10, grow_rg h11, fun _ => h12 c0⟩
    have hO : VOK (v_grow q f) := by
      unfold VOK
      rw [v_grow_o q f (by decide) (by decide), v_grow_o q f (by decide) (by decide), v_grow_o q f (by decide) (by decide), v_grow_o q f (by decide) (by decide)]
      exact hV
    have hq1 : ∀ j : Nat, j < 12 → d_qa (d_lv da v) v (nI j) = q j := hq
    have hdr1 : ∀ i, i < 32 → d_lv da v 1 i = dr i := hdr
    rw [l3]
    generalize d_lv da v = E at hG hq1 hdr1 ⊢
    generalize v_grow q f = G at hG hO ⊢
    by_cases c1 : G 0 = 0
    · rw [if_pos c1, if_pos c1, if_pos c1, if_pos c1]
      exact ⟨rfl, hG⟩
    · rw [if_neg c1, if_neg c1, if_neg c1, if_neg c1]
      obtain ⟨g1, g2, g3, g4, g5, g6, g7, g8, g9, g10, g11, g12⟩ := hG
      have q0 : d_qa E v 0 = q 0 := hq1 0 (by decide)
      have q1 : d_qa E v 1 = q 1 := hq1 1 (by decide)
      have q2 : d_qa E v 2 = q 2 := hq1 2 (by decide)
      have q3 : d_qa E v 3 = q 3 := hq1 3 (by decide)
      have q8 : d_qa E v 8 = q 8 := hq1 8 (by decide)
      have q9 : d_qa E v 9 = q 9 := hq1 9 (by decide)
      have q10 : d_qa E v 10 = q 10 := hq1 10 (by decide)
      have q11 : d_qa E v 11 = q 11 := hq1 11 (by decide)
      have eb : d_bend E clk v = gv_v dr q clk := by
        unfold d_bend gv_v
        rw [q10, q11, pwav_c hdr1 (pv_1 hc hQ.2.2.2.2.2.2.2.2.2.2.2)]
      have rb : rg (gv_v dr q clk) (-72) 72 := bend_rg hQ.2.2.2.2.2.2.2.2.2.2.1 (tri_rg dr (pv_1 hc hQ.2.2.2.2.2.2.2.2.2.2.2))
      have rs := str_rg hO.2.1
      have eo : d_o E v = gv_o dr q G := by
        unfold d_o gv_o
        rw [q0, q1, q3, g6, g7, pwav_c hdr1 hO.2.2.1, pwav_c hdr1 hO.2.2.2]
      have n8 : gv_2 dr q clk G 8 = G 8 := by
        unfold gv_2
        rw [upd_ne (by decide), upd_ne (by decide)]
      have n9 : gv_2 dr q clk G 9 = G 9 := by
        unfold gv_2
        rw [upd_ne (by decide), upd_ne (by decide)]
      have el : d_low E v = v_low q (gv_2 dr q clk G) := by
        unfold d_low v_low
        rw [g8, g9, q8, n8, n9]
      have ed : d_band E v = v_band q (gv_2 dr q clk G) (gv_o dr q G) := by
        unfold d_band v_band
        rw [eo, el, g9, q8, q9, n9]
      have us : ∀ (g : Nat → Int32) (x : Int32), upd g v x v = x := fun g x => pk_us
      have k6 : gv_2 dr q clk G 6 = pfm (G 6 + (pstr (G 3) + gv_v dr q clk)) 65536 := by
        unfold gv_2
        rw [upd_ne (by decide), pk_us]
      have k7 : gv_2 dr q clk G 7 = pfm (G 7 + (pstr (G 3) + gv_v dr q clk) + q 2) 65536 := by
        unfold gv_2
        rw [pk_us]
      have ko : ∀ k, k ≠ 6 → k ≠ 7 → gv_2 dr q clk G k = G k := by
        intro k a b
        unfold gv_2
        rw [upd_ne b, upd_ne a]
      refine ⟨?_, ?_⟩
      · unfold d_out v_out
        rw [el, g5, g2, ko 4 (by decide) (by decide), ko 1 (by decide) (by decide)]
      · have f8 : v_filt q (gv_2 dr q clk G) (gv_o dr q G) 8 = v_low q (gv_2 dr q clk G) := by
          unfold v_filt
          rw [upd_ne (by decide), pk_us]
        have f9 : v_filt q (gv_2 dr q clk G) (gv_o dr q G) 9 = v_band q (gv_2 dr q clk G) (gv_o dr q G) := by
          unfold v_filt
          rw [pk_us]
        have fo : ∀ k, k ≠ 8 → k ≠ 9 → v_filt q (gv_2 dr q clk G) (gv_o dr q G) k = gv_2 dr q clk G k := fun k a b => v_filt_o _ _ _ a b
        have e8 : d_g2 E clk v 8 v = pfm (G 6 + (pstr (G 3) + gv_v dr q clk)) 65536 := by
          show upd (E 8) v (prm (E 8 v + pstr (E 6 v) + d_bend E clk v + 65536) 65536) v = _
          rw [us, g6, g4, eb]
          exact ph_1 hO.2.2.1 rs rb
        have e9 : d_g2 E clk v 9 v = pfm (G 7 + (pstr (G 3) + gv_v dr q clk) + q 2) 65536 := by
          show upd (E 9) v (prm (E 9 v + pstr (E 6 v) + d_bend E clk v + d_qa E v 2 + 65536) 65536) v = _
          rw [us, g7, g4, eb, q2]
          exact ph_2 hO.2.2.2 rs rb hQ.2.2.1
        have e10 : d_g2 E clk v 10 v = v_low q (gv_2 dr q clk G) := (us _ _).trans el
        have e11 : d_g2 E clk v 11 v = v_band q (gv_2 dr q clk G) (gv_o dr q G) := (us _ _).trans ed
        unfold VR
        rw [e8, e9, e10, e11, f8, f9, fo 0 (by decide) (by decide), fo 1 (by decide) (by decide), fo 2 (by decide) (by decide), fo 3 (by decide) (by decide), fo 4 (by decide) (by decide), fo 5 (by decide) (by decide), fo 6 (by decide) (by decide), fo 7 (by decide) (by decide), fo 10 (by decide) (by decide)]
        rw [k6, k7, ko 0 (by decide) (by decide), ko 1 (by decide) (by decide), ko 2 (by decide) (by decide), ko 3 (by decide) (by decide), ko 4 (by decide) (by decide), ko 5 (by decide) (by decide), ko 10 (by decide) (by decide)]
        exact ⟨g1, g2, g3, g4, g5, rfl, rfl, rfl, rfl, g10, g11, g12⟩
