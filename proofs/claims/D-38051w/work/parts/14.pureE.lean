/-! PURE: bounds, the engine -/
set_option maxRecDepth 100000
abbrev rg (x : Int32) (lo hi : Int) : Prop := lo ≤ x.toInt ∧ x.toInt ≤ hi
theorem rg_in {x : Int32} {n : Nat} {hi : Int} (h : rg x 0 hi) (hn : hi < n) : vp_in x n := vp_in_iff.mpr ⟨h.1, by omega⟩
theorem in_rg {x : Int32} {n : Nat} (h : vp_in x n) : rg x 0 (n - 1) := by
  have h1 := vp_in_iff.mp h
  exact ⟨h1.1, by omega⟩
theorem rg_ne {x y : Int32} {lo hi : Int} (h : rg x lo hi) (hy : y.toInt < lo ∨ hi < y.toInt) : ¬ x = y := by
  rintro rfl
  rcases hy with q | q
  · exact absurd h.1 (by omega)
  · exact absurd h.2 (by omega)
theorem rg_nI {x : Int32} {hi : Int} (h : rg x 0 hi) : ∃ j : Nat, (j : Int) ≤ hi ∧ j < 2 ^ 31 ∧ x = nI j := by
  have h0 : ¬ x < 0 := by
    rw [Int32.lt_iff_toInt_lt]
    have e : (0 : Int32).toInt = 0 := by decide
    rw [e]
    have := h.1
    omega
  obtain ⟨j, hj, e⟩ := nI_of h0
  subst e
  have h2 := h.2
  rw [nI_toInt hj] at h2
  exact ⟨j, h2, hj, rfl⟩
theorem nI_in_lt {j n : Nat} (h : vp_in (nI j) n) (hj : j < 2 ^ 31) : j < n := by
  have h1 := (vp_in_iff.mp h).2
  rw [nI_toInt hj] at h1
  omega
-- a phase's place in a wave
theorem pw_1 {ph : Int32} (h : vp_in ph 65536) : vp_in (ph / 2048) 32 := by
  obtain ⟨j, hj, rfl⟩ := vp_in_of h (by decide)
  show vp_in (nI j / nI 2048) 32
  rw [pk_div (by omega) (by decide) (by decide)]
  exact vp_in_nI (by omega) (by decide)
theorem pw_2 {ph : Int32} (h : vp_in ph 65536) : vp_in (prm (ph / 2048 + 1) 32) 32 := by
  obtain ⟨j, hj, rfl⟩ := vp_in_of h (by decide)
  show vp_in (prm (nI j / nI 2048 + 1) (nI 32)) 32
  rw [pk_div (by omega) (by decide) (by decide), nI_1]
  unfold prm
  rw [pk_rem (by omega) (by decide) (by decide)]
  exact vp_in_nI (Nat.mod_lt _ (by decide)) (by decide)
theorem ps_1 {p : Int32} (h : vp_in p 48) : vp_in (prm p 12) 12 := by
  obtain ⟨j, hj, rfl⟩ := vp_in_of h (by decide)
  show vp_in (prm (nI j) (nI 12)) 12
  unfold prm
  rw [pk_rem (by omega) (by decide) (by decide)]
  exact vp_in_nI (Nat.mod_lt _ (by decide)) (by decide)
theorem pv_1 {c d : Int32} (hc : ¬ c < 0) (hd : rg d 8 255) : vp_in (prm c d * 65536 / d) 65536 := by
  obtain ⟨j, hj, rfl⟩ := nI_of hc
  obtain ⟨k, hk, hk2, rfl⟩ := rg_nI (x := d) ⟨by have := hd.1; omega, hd.2⟩
  have h8 : 8 ≤ k := by have := hd.1; rw [nI_toInt hk2] at this; omega
  show vp_in (prm (nI j) (nI k) * nI 65536 / nI k) 65536
  unfold prm
  rw [pk_rem hj (by omega) hk2, pk_mul]
  have hm : j % k < k := Nat.mod_lt _ (by omega)
  have hl : j % k * 65536 < k * 65536 := by omega
  rw [pk_div (by omega) (by omega) hk2]
  exact vp_in_nI (Nat.div_lt_of_lt_mul (by omega)) (by decide)
theorem xor_sg (x y : Int32) (hy : y.toBitVec.msb = false) : 0 ≤ x ^^^ y ↔ 0 ≤ x := by
  have h0 : ∀ z : Int32, 0 ≤ z ↔ z.toBitVec.msb = false := by
    intro z
    rw [Int32.le_iff_toInt_le]
    have e : (0 : Int32).toInt = 0 := by decide
    rw [e, BitVec.msb_eq_toInt]
    show 0 ≤ z.toInt ↔ decide (z.toInt < 0) = false
    rw [decide_eq_false_iff_not]
    omega
  rw [h0, h0, Int32.toBitVec_xor, BitVec.msb_xor, hy, Bool.xor_false]
theorem prm_toInt (a m : Int32) : (prm a m).toInt = a.toInt.tmod m.toInt := rem_toInt a m
theorem pfm_toInt (x : Int32) : (pfm x 65536).toInt = x.toInt % 65536 := by
  have e : (65536 : Int32).toInt = 65536 := by decide
  have hx := Int32.toInt_lt x
  have hx2 := Int32.le_toInt x
  have t := tmod_bounds (a := x.toInt) (M := 65536) (by decide)
  have e2 : (prm x 65536).toInt = x.toInt.tmod 65536 := by rw [prm_toInt, e]
  have hx0 : 0 ≤ x ↔ 0 ≤ x.toInt := by
    rw [Int32.le_iff_toInt_le]
    exact Iff.rfl
  unfold pfm
  by_cases h : 0 ≤ x
  · rw [if_pos ((xor_sg x 65536 (by decide)).mpr h), e2, Int.tmod_eq_emod_of_nonneg (hx0.mp h)]
  · rw [if_neg (fun q => h ((xor_sg x 65536 (by decide)).mp q))]
    have hn : x.toInt < 0 := by
      rcases Int.lt_or_le x.toInt 0 with q | q
      · exact q
      · exact absurd (hx0.mpr q) h
    have ht : x.toInt.tmod 65536 = -((-x.toInt) % 65536) := by
      rw [← Int.tmod_eq_emod_of_nonneg (by omega), Int.neg_tmod, Int.neg_neg]
    by_cases hz : prm x 65536 = 0
    · rw [if_pos hz, e2]
      have : x.toInt.tmod 65536 = 0 := by rw [← e2, hz]; decide
      omega
    · rw [if_neg hz]
      have hz2 : x.toInt.tmod 65536 ≠ 0 := fun q => hz (Int32.toInt_inj.mp (by rw [e2, q]; decide))
      rw [Jvm.Kit.i32_add (by rw [e2, e]; omega) (by rw [e2, e]; omega), e2, e]
      omega
theorem pfm_in (x : Int32) : vp_in (pfm x 65536) 65536 := by
  rw [vp_in_iff, pfm_toInt]
  omega
-- what is asked of an instrument, of a voice
def IOK (f : Nat → Int32) : Prop := rg (f 0) 0 3 ∧ rg (f 1) 0 3 ∧ rg (f 2) (-64) 64 ∧ rg (f 3) 0 100 ∧ rg (f 4) 1 400 ∧ rg (f 5) 1 400 ∧ rg (f 6) 0 1000 ∧ rg (f 7) 1 400 ∧ rg (f 8) 1 128 ∧ rg (f 9) 16 256 ∧ rg (f 10) 0 64 ∧ rg (f 11) 8 255
def VOK (f : Nat → Int32) : Prop := vp_in (f 2) 4 ∧ vp_in (f 3) 48 ∧ vp_in (f 6) 65536 ∧ vp_in (f 7) 65536
theorem IOK.z4 {f : Nat → Int32} (h : IOK f) : ¬ f 4 = 0 := rg_ne h.2.2.2.2.1 (Or.inl (by decide))
theorem IOK.z5 {f : Nat → Int32} (h : IOK f) : ¬ f 5 = 0 := rg_ne h.2.2.2.2.2.1 (Or.inl (by decide))
theorem IOK.z7 {f : Nat → Int32} (h : IOK f) : ¬ f 7 = 0 := rg_ne h.2.2.2.2.2.2.2.1 (Or.inl (by decide))
theorem IOK.z11 {f : Nat → Int32} (h : IOK f) : ¬ f 11 = 0 := rg_ne h.2.2.2.2.2.2.2.2.2.2.2 (Or.inl (by decide))
theorem upd_ne {f : Nat → Int32} {i j : Nat} {x : Int32} (h : j ≠ i) : upd f i x j = f j := pk_un h
theorem v_grow_o (q f : Nat → Int32) {k : Nat} (h0 : k ≠ 0) (h1 : k ≠ 1) : v_grow q f k = f k := by
  have h : ∀ l t s : Int32, v_g1 f l t s k = f k := by
    intro l t s
    unfold v_g1
    split
    · rw [upd_ne h0, upd_ne h1]
    · rw [upd_ne h1]
  unfold v_grow
  split
  · exact h _ _ _
  · split
    · exact h _ _ _
    · split
      · exact upd_ne h1
      · exact h _ _ _
theorem vfr0 {f : Nat → Int32} (h : v_free f = 0) : ¬ f 0 = 0 := by
  intro e
  unfold v_free at h
  rw [if_pos e] at h
  exact absurd h (by decide)
theorem vfr1 {f : Nat → Int32} (h : ¬ v_free f = 0) : f 0 = 0 := by
  unfold v_free at h
  by_cases e : f 0 = 0
  · exact e
  · rw [if_neg e] at h
    exact absurd rfl h
-- ranks, who is ahead, the voice that a note takes
def v_rank (f : Nat → Int32) : Int32 := if f 0 = 0 then 0 else if f 0 = 4 then 1 else 2
def v_ahead (a b : Nat → Int32) : Int32 := if v_rank a = v_rank b then (if a 0 = 4 then (if b 1 ≤ a 1 then 0 else 1) else if a 0 = 0 then 0 else if b 5 ≤ a 5 then 0 else 1) else if v_rank b ≤ v_rank a then 0 else 1
def v_n1 (vf : Nat → Nat → Int32) : Nat := if v_ahead (vf 1) (vf 0) = 0 then 0 else 1
def v_n2 (vf : Nat → Nat → Int32) : Nat := if v_ahead (vf 2) (vf (v_n1 vf)) = 0 then v_n1 vf else 2
def v_nx (vf : Nat → Nat → Int32) : Nat := if v_ahead (vf 3) (vf (v_n2 vf)) = 0 then v_n2 vf else 3
theorem v_n1_2 (vf : Nat → Nat → Int32) : v_n1 vf = 0 ∨ v_n1 vf = 1 := by
  unfold v_n1
  split
  · exact Or.inl rfl
  · exact Or.inr rfl
theorem v_n2_3 (vf : Nat → Nat → Int32) : v_n2 vf = 0 ∨ v_n2 vf = 1 ∨ v_n2 vf = 2 := by
  unfold v_n2
  split
  · rcases v_n1_2 vf with h | h
    · exact Or.inl h
    · exact Or.inr (Or.inl h)
  · exact Or.inr (Or.inr rfl)
theorem v_nx_4 (vf : Nat → Nat → Int32) : v_nx vf = 0 ∨ v_nx vf = 1 ∨ v_nx vf = 2 ∨ v_nx vf = 3 := by
  unfold v_nx
  split
  · rcases v_n2_3 vf with h | h | h
    · exact Or.inl h
    · exact Or.inr (Or.inl h)
    · exact Or.inr (Or.inr (Or.inl h))
  · exact Or.inr (Or.inr (Or.inr rfl))
theorem v_nx_lt (vf : Nat → Nat → Int32) : v_nx vf < 4 := by
  rcases v_nx_4 vf with h | h | h | h <;> omega
-- the engine: vf the voices, en its numbers (head clock begun taken isPlaying step gone stepLength isClipped), rw its row
def e_bv (vf : Nat → Nat → Int32) (en : Nat → Int32) (i p fo ga : Int32) : Nat → Nat → Int32 := fun k => if k = v_nx vf then v_begin (vf k) i p fo ga (en 2 + 1) else vf k
def e_be (vf : Nat → Nat → Int32) (en : Nat → Int32) : Nat → Int32 := if vf (v_nx vf) 0 = 0 then upd en 2 (en 2 + 1) else upd (upd en 3 (en 3 + 1)) 2 (en 2 + 1)
abbrev eS : Type := (Nat → Nat → Int32) × (Nat → Int32)
/-- a track's step; st: the step's place -/
def e_t1 (tr : Nat → Nat → Int32) (tw : Nat → Nat → Nat → Int32) (st t : Nat) (S : eS) : eS := if tw t 0 st = -1 then S else (e_bv S.1 S.2 (tr t 0) (tw t 0 st) (tw t 1 st) (tw t 2 st), e_be S.1 S.2)
def e_sl (mi en : Nat → Int32) : Int32 := if prm (en 5) 2 = 0 then mi 0 + mi 1 else mi 0 - mi 1
def e_bs (mi : Nat → Int32) (tr : Nat → Nat → Int32) (tw : Nat → Nat → Nat → Int32) (S : eS) : eS := e_t1 tr tw (S.2 5).toNatClampNeg 2 (e_t1 tr tw (S.2 5).toNatClampNeg 1 (e_t1 tr tw (S.2 5).toNatClampNeg 0 (S.1, upd S.2 7 (e_sl mi S.2))))
def v_gate (f : Nat → Int32) : Nat → Int32 := if f 10 = 0 then upd (v_end f) 10 (-1) else f
/-- behind the gates, where a step begins -/
def e_t2 (mi : Nat → Int32) (tr : Nat → Nat → Int32) (tw : Nat → Nat → Nat → Int32) (S : eS) : eS := if S.2 6 = 0 then e_bs mi tr tw S else S
/-- .. the step's clock goes on -/
def e_go (en : Nat → Int32) : Nat → Int32 := if en 7 ≤ en 6 + 1 then upd (upd (upd en 6 (en 6 + 1)) 6 0) 5 (prm (en 5 + 1) 8) else upd en 6 (en 6 + 1)
def e_tr (mi : Nat → Int32) (tr : Nat → Nat → Int32) (tw : Nat → Nat → Nat → Int32) (S : eS) : eS :=
  if S.2 4 = 0 then (fun k => v_gate (S.1 k), S.2) else ((e_t2 mi tr tw (fun k => v_gate (S.1 k), S.2)).1, e_go (e_t2 mi tr tw (fun k => v_gate (S.1 k), S.2)).2)
-- what a voice gives
def gv_v (dr q : Nat → Int32) (clk : Int32) : Int32 := q 10 * pwav dr 2 (prm clk (q 11) * 65536 / q 11) / 1000
def gv_o (dr q f : Nat → Int32) : Int32 := (pwav dr (q 0) (f 6) * (100 - q 3) + pwav dr (q 1) (f 7) * q 3) / 100
def gv_2 (dr q : Nat → Int32) (clk : Int32) (f : Nat → Int32) : Nat → Int32 := upd (upd f 6 (pfm (f 6 + (pstr (f 3) + gv_v dr q clk)) 65536)) 7 (pfm (f 7 + (pstr (f 3) + gv_v dr q clk) + q 2) 65536)
def gv_f (dr q : Nat → Int32) (clk : Int32) (f : Nat → Int32) : Nat → Int32 := if f 0 = 0 then f else if v_grow q f 0 = 0 then v_grow q f else v_filt q (gv_2 dr q clk (v_grow q f)) (gv_o dr q (v_grow q f))
def gv_r (dr q : Nat → Int32) (clk : Int32) (f : Nat → Int32) : Int32 := if f 0 = 0 then 0 else if v_grow q f 0 = 0 then 0 else v_out q (gv_2 dr q clk (v_grow q f))
def v_dec (f : Nat → Int32) : Nat → Int32 := if f 10 ≤ 0 then f else upd f 10 (f 10 - 1)
-- references of the lists
def iq (ad : Nat → Nat) : Nat → Option Nat := fun k => if k < 4 then some (ad (4 + k)) else none
def tq (ad : Nat → Nat) : Nat → Option Nat := fun k => if k < 3 then some (ad (10 + k)) else none
def vq (ed : Nat → Nat) : Nat → Option Nat := fun k => if k < 4 then some (ed (3 + k)) else none
def al4 : Nat → Int32 := fun _ => 4
def al3 : Nat → Int32 := fun _ => 3
def v_s1 (f : Nat → Int32) : Int32 := if f 0 = 0 then 0 else 1
def v_snd (vf : Nat → Nat → Int32) : Int32 := 0 + v_s1 (vf 0) + v_s1 (vf 1) + v_s1 (vf 2) + v_s1 (vf 3)
theorem e_be_o (vf : Nat → Nat → Int32) (en : Nat → Int32) {k : Nat} (h2 : k ≠ 2) (h3 : k ≠ 3) : e_be vf en k = en k := by
  unfold e_be
  split
  · exact upd_ne h2
  · rw [upd_ne h2, upd_ne h3]
theorem e_be_5 (vf : Nat → Nat → Int32) (en : Nat → Int32) : e_be vf en 5 = en 5 := e_be_o vf en (by decide) (by decide)
def TOK (tr : Nat → Nat → Int32) (tw : Nat → Nat → Nat → Int32) : Prop := ∀ t, t < 3 → vp_in (tr t 0) 4 ∧ ∀ s, s < 8 → (tw t 0 s = -1 ∨ vp_in (tw t 0 s) 48)
theorem VOK_gate {f : Nat → Int32} (h : VOK f) : VOK (v_gate f) := by
  have he : ∀ k, k ≠ 0 → v_end f k = f k := by
    intro k hk
    unfold v_end
    split
    · rfl
    · exact upd_ne hk
  have e : ∀ k, k ≠ 0 → k ≠ 10 → v_gate f k = f k := by
    intro k h0 h1
    unfold v_gate
    split
    · rw [upd_ne h1, he k h0]
    · rfl
  unfold VOK
  rw [e 2 (by decide) (by decide), e 3 (by decide) (by decide), e 6 (by decide) (by decide), e 7 (by decide) (by decide)]
  exact h
theorem VOK_begin {f : Nat → Int32} {i p fo ga b : Int32} (hi : vp_in i 4) (hp : vp_in p 48) : VOK (v_begin f i p fo ga b) := ⟨hi, hp, vpc rfl, vpc rfl⟩
theorem VOK_bv {vf : Nat → Nat → Int32} {en : Nat → Int32} {i p fo ga : Int32} (h : ∀ k, k < 4 → VOK (vf k)) (hi : vp_in i 4) (hp : vp_in p 48) : ∀ k, k < 4 → VOK (e_bv vf en i p fo ga k) := by
  intro k hk
  unfold e_bv
  split
  · exact VOK_begin hi hp
  · exact h k hk
theorem VOK_t1 {tr : Nat → Nat → Int32} {tw : Nat → Nat → Nat → Int32} {st t : Nat} {S : eS} (hT : TOK tr tw) (hs : st < 8) (ht : t < 3) (h : ∀ k, k < 4 → VOK (S.1 k)) : ∀ k, k < 4 → VOK ((e_t1 tr tw st t S).1 k) := by
  unfold e_t1
  split
  · exact h
  · next hn =>
    rcases (hT t ht).2 st hs with q | q
    · exact absurd q hn
    · exact VOK_bv h (hT t ht).1 q
theorem in_lt {x : Int32} {n : Nat} (h : vp_in x n) : x.toNatClampNeg < n := Nat.not_le.mp fun q => h (Or.inr q)
theorem VOK_bs {mi : Nat → Int32} {tr : Nat → Nat → Int32} {tw : Nat → Nat → Nat → Int32} {S : eS} (hT : TOK tr tw) (hs : vp_in (S.2 5) 8) (h : ∀ k, k < 4 → VOK (S.1 k)) : ∀ k, k < 4 → VOK ((e_bs mi tr tw S).1 k) := by
  unfold e_bs
  exact VOK_t1 hT (in_lt hs) (by decide) (VOK_t1 hT (in_lt hs) (by decide) (VOK_t1 hT (in_lt hs) (by decide) h))
theorem VOK_tr {mi : Nat → Int32} {tr : Nat → Nat → Int32} {tw : Nat → Nat → Nat → Int32} {S : eS} (hT : TOK tr tw) (hs : vp_in (S.2 5) 8) (h : ∀ k, k < 4 → VOK (S.1 k)) : ∀ k, k < 4 → VOK ((e_tr mi tr tw S).1 k) := by
  have hg : ∀ k, k < 4 → VOK (v_gate (S.1 k)) := fun k hk => VOK_gate (h k hk)
  unfold e_tr
  split
  · exact hg
  · show ∀ k, k < 4 → VOK ((e_t2 mi tr tw (fun k => v_gate (S.1 k), S.2)).1 k)
    unfold e_t2
    split
    · exact VOK_bs hT hs hg
    · exact hg
/-- the numbers that a track doesn't move -/
theorem e_t1_o {tr : Nat → Nat → Int32} {tw : Nat → Nat → Nat → Int32} {st t : Nat} {S : eS} {k : Nat} (h2 : k ≠ 2) (h3 : k ≠ 3) : (e_t1 tr tw st t S).2 k = S.2 k := by
  unfold e_t1
  split
  · rfl
  · exact e_be_o _ _ h2 h3
theorem e_bs_o {mi : Nat → Int32} {tr : Nat → Nat → Int32} {tw : Nat → Nat → Nat → Int32} {S : eS} {k : Nat} (h2 : k ≠ 2) (h3 : k ≠ 3) (h7 : k ≠ 7) : (e_bs mi tr tw S).2 k = S.2 k := by
  unfold e_bs
  rw [e_t1_o h2 h3, e_t1_o h2 h3, e_t1_o h2 h3]
  exact upd_ne h7
theorem e_tr_o {mi : Nat → Int32} {tr : Nat → Nat → Int32} {tw : Nat → Nat → Nat → Int32} {S : eS} {k : Nat} (h2 : k ≠ 2) (h3 : k ≠ 3) (h7 : k ≠ 7) (h5 : k ≠ 5) (h6 : k ≠ 6) : (e_tr mi tr tw S).2 k = S.2 k := by
  have hg : ∀ en : Nat → Int32, e_go en k = en k := by
    intro en
    unfold e_go
    split
    · rw [upd_ne h5, upd_ne h6, upd_ne h6]
    · exact upd_ne h6
  unfold e_tr
  split
  · rfl
  · show e_go _ k = _
    rw [hg]
    unfold e_t2
    split
    · exact e_bs_o h2 h3 h7
    · rfl
-- a sample
def e_gf (dr : Nat → Int32) (ig : Nat → Nat → Int32) (clk : Int32) (f : Nat → Int32) : Nat → Int32 := v_dec (gv_f dr (ig (f 2).toNatClampNeg) clk f)
def e_gr (dr : Nat → Int32) (ig : Nat → Nat → Int32) (clk : Int32) (f : Nat → Int32) : Int32 := gv_r dr (ig (f 2).toNatClampNeg) clk f
def e_mm (dr : Nat → Int32) (ig : Nat → Nat → Int32) (mi : Nat → Int32) (vf : Nat → Nat → Int32) (clk : Int32) : Int32 := (0 + e_gr dr ig clk (vf 0) + e_gr dr ig clk (vf 1) + e_gr dr ig clk (vf 2) + e_gr dr ig clk (vf 3)) * mi 2 / 16
def s_made (mi : Nat → Int32) (m : Int32) (rw en : Nat → Int32) : Int32 := if mi 3 ≤ 0 then m else m + rw (en 0).toNatClampNeg * mi 4 / 256
def s_row (mi : Nat → Int32) (m : Int32) (rw en : Nat → Int32) : Nat → Int32 := if mi 3 ≤ 0 then rw else upd rw (en 0).toNatClampNeg (pkp (m + rw (en 0).toNatClampNeg * mi 5 / 256) 100000)
def s_hd (mi en : Nat → Int32) : Nat → Int32 := if mi 3 ≤ 0 then en else upd en 0 (prm (en 0 + 1) (mi 3))
def s_clip (x : Int32) : Int32 := if 32767 < x then 1 else if -32767 ≤ x then 0 else 1
def s_en (mi : Nat → Int32) (m : Int32) (rw en : Nat → Int32) : Nat → Int32 := upd (upd (s_hd mi en) 1 (en 1 + 1)) 8 (s_clip (s_made mi m rw en))
def smp_v (dr : Nat → Int32) (ig : Nat → Nat → Int32) (mi : Nat → Int32) (tr : Nat → Nat → Int32) (tw : Nat → Nat → Nat → Int32) (S : eS) : Nat → Nat → Int32 := fun k => e_gf dr ig ((e_tr mi tr tw S).2 1) ((e_tr mi tr tw S).1 k)
def smp_m (dr : Nat → Int32) (ig : Nat → Nat → Int32) (mi : Nat → Int32) (tr : Nat → Nat → Int32) (tw : Nat → Nat → Nat → Int32) (S : eS) : Int32 := e_mm dr ig mi (e_tr mi tr tw S).1 ((e_tr mi tr tw S).2 1)
def smp_w (dr : Nat → Int32) (ig : Nat → Nat → Int32) (mi : Nat → Int32) (tr : Nat → Nat → Int32) (tw : Nat → Nat → Nat → Int32) (S : eS) (rw : Nat → Int32) : Nat → Int32 := s_row mi (smp_m dr ig mi tr tw S) rw (e_tr mi tr tw S).2
def smp_e (dr : Nat → Int32) (ig : Nat → Nat → Int32) (mi : Nat → Int32) (tr : Nat → Nat → Int32) (tw : Nat → Nat → Nat → Int32) (S : eS) (rw : Nat → Int32) : Nat → Int32 := s_en mi (smp_m dr ig mi tr tw S) rw (e_tr mi tr tw S).2
def smp_r (dr : Nat → Int32) (ig : Nat → Nat → Int32) (mi : Nat → Int32) (tr : Nat → Nat → Int32) (tw : Nat → Nat → Nat → Int32) (S : eS) (rw : Nat → Int32) : Int32 := pkp (s_made mi (smp_m dr ig mi tr tw S) rw (e_tr mi tr tw S).2) 32767
theorem s_clip_01 (x : Int32) : s_clip x = 0 ∨ s_clip x = 1 := by
  unfold s_clip
  split
  · exact Or.inr rfl
  · split
    · exact Or.inl rfl
    · exact Or.inr rfl
