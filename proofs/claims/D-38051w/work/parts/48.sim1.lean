/-! PURE: the class and the reference, one beside the other: voices, tracks -/
set_option maxRecDepth 100000
/-- the voice v of the desk is the class's voice f; N bounds what began -/
def VR (N : Nat) (da : Nat → Nat → Int32) (f : Nat → Int32) (v : Nat) : Prop :=
  da 3 v = f 0 ∧ da 4 v = f 1 ∧ da 5 v = f 2 ∧ da 6 v = f 3 ∧ da 7 v = f 4 ∧ da 8 v = f 6 ∧ da 9 v = f 7 ∧ da 10 v = f 8 ∧ da 11 v = f 9 ∧ da 12 v = f 10 ∧ rg (f 0) 0 4 ∧ (¬ f 0 = 0 → f 5 = da 13 v + 1 ∧ rg (da 13 v) 0 N)
theorem VR.mono {N M : Nat} {da : Nat → Nat → Int32} {f : Nat → Int32} {v : Nat} (h : VR N da f v) (hM : N ≤ M) : VR M da f v := by
  obtain ⟨h1, h2, h3, h4, h5, h6, h7, h8, h9, h10, h11, h12⟩ := h
  exact ⟨h1, h2, h3, h4, h5, h6, h7, h8, h9, h10, h11, fun q => ⟨(h12 q).1, (h12 q).2.1, by have := (h12 q).2.2; omega⟩⟩
theorem rg_pick {x : Int32} (h : rg x 0 4) : x = 0 ∨ x = 1 ∨ x = 2 ∨ x = 3 ∨ x = 4 := by
  obtain ⟨j, hj, hj2, rfl⟩ := rg_nI h
  rcases (show j = 0 ∨ j = 1 ∨ j = 2 ∨ j = 3 ∨ j = 4 by omega) with rfl | rfl | rfl | rfl | rfl
  · exact Or.inl rfl
  · exact Or.inr (Or.inl rfl)
  · exact Or.inr (Or.inr (Or.inl rfl))
  · exact Or.inr (Or.inr (Or.inr (Or.inl rfl)))
  · exact Or.inr (Or.inr (Or.inr (Or.inr rfl)))
-- gates
theorem d_gg_s (ga : Nat → Int32) (v : Nat) : d_gg ga v v = if ga v = 0 then -1 else ga v := by
  unfold d_gg
  split
  · exact pk_us
  · rfl
theorem d_gg_o (ga : Nat → Int32) {v j : Nat} (h : j ≠ v) : d_gg ga v j = ga j := by
  unfold d_gg
  split
  · exact upd_ne h
  · rfl
theorem d_gs_s (sa ga : Nat → Int32) (v : Nat) : d_gs sa ga v v = if ga v = 0 then (if in_z (sa v) 1 3 = 0 then sa v else 4) else sa v := by
  unfold d_gs d_end
  split
  · split
    · rfl
    · exact pk_us
  · rfl
theorem d_gs_o (sa ga : Nat → Int32) {v j : Nat} (h : j ≠ v) : d_gs sa ga v j = sa j := by
  unfold d_gs d_end
  split
  · split
    · rfl
    · exact upd_ne h
  · rfl
theorem d_g0_3 (da : Nat → Nat → Int32) {v : Nat} (hv : v < 4) : d_g0 da 3 v = if da 12 v = 0 then (if in_z (da 3 v) 1 3 = 0 then da 3 v else 4) else da 3 v := by
  show d_gs (d_gs (d_gs (d_gs (da 3) (da 12) 0) (d_gg (da 12) 0) 1) (d_gg (d_gg (da 12) 0) 1) 2) (d_gg (d_gg (d_gg (da 12) 0) 1) 2) 3 v = _
  rcases (show v = 0 ∨ v = 1 ∨ v = 2 ∨ v = 3 by omega) with rfl | rfl | rfl | rfl
  · rw [d_gs_o _ _ (by decide), d_gs_o _ _ (by decide), d_gs_o _ _ (by decide), d_gs_s]
  · rw [d_gs_o _ _ (by decide), d_gs_o _ _ (by decide), d_gs_s, d_gs_o _ _ (by decide), d_gg_o _ (by decide)]
  · rw [d_gs_o _ _ (by decide), d_gs_s, d_gs_o _ _ (by decide), d_gs_o _ _ (by decide), d_gg_o _ (by decide), d_gg_o _ (by decide)]
  · rw [d_gs_s, d_gs_o _ _ (by decide), d_gs_o _ _ (by decide), d_gs_o _ _ (by decide), d_gg_o _ (by decide), d_gg_o _ (by decide), d_gg_o _ (by decide)]
theorem d_g0_12 (da : Nat → Nat → Int32) {v : Nat} (hv : v < 4) : d_g0 da 12 v = if da 12 v = 0 then -1 else da 12 v := by
  show d_gg (d_gg (d_gg (d_gg (da 12) 0) 1) 2) 3 v = _
  rcases (show v = 0 ∨ v = 1 ∨ v = 2 ∨ v = 3 by omega) with rfl | rfl | rfl | rfl
  · rw [d_gg_o _ (by decide), d_gg_o _ (by decide), d_gg_o _ (by decide), d_gg_s]
  · rw [d_gg_o _ (by decide), d_gg_o _ (by decide), d_gg_s, d_gg_o _ (by decide)]
  · rw [d_gg_o _ (by decide), d_gg_s, d_gg_o _ (by decide), d_gg_o _ (by decide)]
  · rw [d_gg_s, d_gg_o _ (by decide), d_gg_o _ (by decide), d_gg_o _ (by decide)]
theorem v_end_o (f : Nat → Int32) {k : Nat} (h : k ≠ 0) : v_end f k = f k := by
  unfold v_end
  split
  · rfl
  · exact upd_ne h
theorem v_end_0 (f : Nat → Int32) : v_end f 0 = if f 0 = 0 then f 0 else 4 := by
  unfold v_end
  split
  · rfl
  · exact pk_us
theorem v_gate_o (f : Nat → Int32) {k : Nat} (h : k ≠ 0) (h2 : k ≠ 10) : v_gate f k = f k := by
  unfold v_gate
  split
  · rw [upd_ne h2, v_end_o f h]
  · rfl
theorem v_gate_0 (f : Nat → Int32) : v_gate f 0 = if f 10 = 0 then (if f 0 = 0 then f 0 else 4) else f 0 := by
  unfold v_gate
  split
  · rw [upd_ne (by decide), v_end_0]
  · rfl
theorem v_gate_10 (f : Nat → Int32) : v_gate f 10 = if f 10 = 0 then -1 else f 10 := by
  unfold v_gate
  split
  · exact pk_us
  · rfl
/-- a note's end, in both -/
theorem end_eq {x : Int32} (h : rg x 0 4) : (if in_z x 1 3 = 0 then x else 4) = if x = 0 then x else 4 := by
  rcases rg_pick h with rfl | rfl | rfl | rfl | rfl <;> decide
theorem VR_gate {N : Nat} {da : Nat → Nat → Int32} {f : Nat → Int32} {v : Nat} (hv : v < 4) (h : VR N da f v) : VR N (d_g0 da) (v_gate f) v := by
  obtain ⟨h1, h2, h3, h4, h5, h6, h7, h8, h9, h10, h11, h12⟩ := h
  unfold VR
  rw [d_g0_3 da hv, d_g0_12 da hv, v_gate_0, v_gate_10, v_gate_o f (by decide) (by decide), v_gate_o f (by decide) (by decide), v_gate_o f (by decide) (by decide), v_gate_o f (by decide) (by decide), v_gate_o f (by decide) (by decide), v_gate_o f (by decide) (by decide), v_gate_o f (by decide) (by decide), v_gate_o f (by decide) (by decide), v_gate_o f (by decide) (by decide), h10, h1, end_eq h11]
  refine ⟨rfl, h2, h3, h4, h5, h6, h7, h8, h9, rfl, ?_, fun q => h12 (fun z => ?_)⟩
  · split
    · split
      · exact h11
      · exact ⟨by decide, by decide⟩
    · exact h11
  · rw [z] at q
    simp at q
-- the voice that a note takes
theorem ah_1 {a b : Nat → Int32} (ha : a 0 = 0) : v_ahead a b = if b 0 = 0 then 0 else 1 := by
  unfold v_ahead v_rank
  rw [if_pos ha]
  by_cases hb : b 0 = 0
  · rw [if_pos hb, if_pos hb, if_pos rfl, if_neg (by rw [ha]; decide), if_pos ha]
  · rw [if_neg hb, if_neg hb]
    by_cases h4 : b 0 = 4
    · rw [if_pos h4]
      rfl
    · rw [if_neg h4]
      rfl
theorem ah_2 {a b : Nat → Int32} (ha : ¬ a 0 = 0) (hb : b 0 = 0) : v_ahead a b = 0 := by
  unfold v_ahead v_rank
  rw [if_neg ha, if_pos hb]
  by_cases h4 : a 0 = 4
  · rw [if_pos h4]
    rfl
  · rw [if_neg h4]
    rfl
theorem ah_3 {a b : Nat → Int32} (ha : a 0 = 4) (hb : b 0 = 4) : v_ahead a b = if b 1 ≤ a 1 then 0 else 1 := by
  unfold v_ahead v_rank
  rw [if_neg (by rw [ha]; decide), if_pos ha, if_neg (by rw [hb]; decide), if_pos hb, if_pos rfl, if_pos ha]
theorem ah_4 {a b : Nat → Int32} (ha : a 0 = 4) (hb : ¬ b 0 = 0) (hb4 : ¬ b 0 = 4) : v_ahead a b = 1 := by
  unfold v_ahead v_rank
  rw [if_neg (by rw [ha]; decide), if_pos ha, if_neg hb, if_neg hb4]
  rfl
theorem ah_5 {a b : Nat → Int32} (ha : ¬ a 0 = 0) (ha4 : ¬ a 0 = 4) (hb : b 0 = 4) : v_ahead a b = 0 := by
  unfold v_ahead v_rank
  rw [if_neg ha, if_neg ha4, if_neg (by rw [hb]; decide), if_pos hb]
  rfl
theorem ah_6 {a b : Nat → Int32} (ha : ¬ a 0 = 0) (ha4 : ¬ a 0 = 4) (hb : ¬ b 0 = 0) (hb4 : ¬ b 0 = 4) : v_ahead a b = if b 5 ≤ a 5 then 0 else 1 := by
  unfold v_ahead v_rank
  rw [if_neg ha, if_neg ha4, if_neg hb, if_neg hb4, if_pos rfl, if_neg ha4, if_neg ha]
/-- a step of the search: j against the best so far, told of the desk's rows -/
def nx_s (sa la bg : Nat → Int32) (j b : Nat) : Nat := if sa b = 0 then b else if sa j = 0 then j else if sa b = 4 then (if sa j = 4 then (if la b ≤ la j then b else j) else b) else if sa j = 4 then j else if bg b ≤ bg j then b else j
theorem inc_le {x y : Int32} {N : Nat} (hx : rg x 0 N) (hy : rg y 0 N) (hN : N + 1 < 2 ^ 31) : x + 1 ≤ y + 1 ↔ x ≤ y := by
  obtain ⟨a, ha, ha2, rfl⟩ := rg_nI hx
  obtain ⟨b, hb, hb2, rfl⟩ := rg_nI hy
  rw [nI_1, nI_1, nI_leI (by omega) (by omega), nI_leI ha2 hb2]
  omega
theorem nx_step {N : Nat} {da : Nat → Nat → Int32} {vf : Nat → Nat → Int32} {j b : Nat} (hj : VR N da (vf j) j) (hb : VR N da (vf b) b) (hN : N + 1 < 2 ^ 31) : (if v_ahead (vf j) (vf b) = 0 then b else j) = nx_s (da 3) (da 4) (da 13) j b := by
  obtain ⟨a1, a2, -, -, -, -, -, -, -, -, -, a12⟩ := hj
  obtain ⟨b1, b2, -, -, -, -, -, -, -, -, -, b12⟩ := hb
  unfold nx_s
  rw [a1, b1, a2, b2]
  by_cases hb0 : vf b 0 = 0
  · rw [if_pos hb0]
    by_cases ha0 : vf j 0 = 0
    · rw [ah_1 ha0, if_pos hb0, if_pos rfl]
    · rw [ah_2 ha0 hb0, if_pos rfl]
  · rw [if_neg hb0]
    by_cases ha0 : vf j 0 = 0
    · rw [ah_1 ha0, if_neg hb0, if_neg (by decide), if_pos ha0]
    · rw [if_neg ha0]
      by_cases hb4 : vf b 0 = 4
      · rw [if_pos hb4]
        by_cases ha4 : vf j 0 = 4
        · rw [if_pos ha4, ah_3 ha4 hb4]
          split
          · rw [if_pos rfl]
          · rw [if_neg (by decide)]
        · rw [if_neg ha4, ah_5 ha0 ha4 hb4, if_pos rfl]
      · rw [if_neg hb4]
        by_cases ha4 : vf j 0 = 4
        · rw [if_pos ha4, ah_4 ha4 hb0 hb4, if_neg (by decide)]
        · rw [if_neg ha4, ah_6 ha0 ha4 hb0 hb4, (a12 ha0).1, (b12 hb0).1]
          by_cases hle : da 13 b ≤ da 13 j
          · rw [if_pos hle, if_pos ((inc_le (b12 hb0).2 (a12 ha0).2 hN).mpr hle), if_pos rfl]
          · rw [if_neg hle, if_neg (fun q => hle ((inc_le (b12 hb0).2 (a12 ha0).2 hN).mp q)), if_neg (by decide)]
theorem nI_nm1 {k : Nat} (h : k < 2 ^ 31) : ¬ nI k = -1 := by
  intro q
  have h1 := congrArg Int32.toInt q
  rw [nI_toInt h, show (-1 : Int32).toInt = -1 by decide] at h1
  omega
theorem nx_lt (sa la bg : Nat → Int32) {j b n : Nat} (hj : j < n) (hb : b < n) : nx_s sa la bg j b < n := by
  unfold nx_s
  split
  · exact hb
  · split
    · exact hj
    · split
      · split
        · split
          · exact hb
          · exact hj
        · exact hb
      · split
        · exact hj
        · split
          · exact hb
          · exact hj
theorem nx_or (sa la bg : Nat → Int32) (j b : Nat) : nx_s sa la bg j b = j ∨ nx_s sa la bg j b = b := by
  unfold nx_s
  split
  · exact Or.inr rfl
  · split
    · exact Or.inl rfl
    · split
      · split
        · split
          · exact Or.inr rfl
          · exact Or.inl rfl
        · exact Or.inr rfl
      · split
        · exact Or.inl rfl
        · split
          · exact Or.inr rfl
          · exact Or.inl rfl
/-- nobody is free: the search's best b, the reference's two bests B, C -/
def nxI (sa : Nat → Int32) (b : Nat) (B C : Int32) : Prop := (B = -1 ∧ ¬ sa b = 4 ∧ C = nI b) ∨ (B = nI b ∧ sa b = 4)
theorem nx_inv {sa la bg : Nat → Int32} {j b : Nat} {B C : Int32} (h : nxI sa b B C) (hb : b < 4) (hzb : ¬ sa b = 0) (hzj : ¬ sa j = 0) : nxI sa (nx_s sa la bg j b) (d_b sa la j B) (d_c bg j C) := by
  rcases h with ⟨h1, h2, h3⟩ | ⟨h1, h2⟩
  · unfold nx_s d_b d_c
    rw [if_neg hzb, if_neg hzj, if_neg h2, h3, nI_clamp (by omega), h1, if_pos rfl]
    by_cases h4 : sa j = 4
    · rw [if_pos h4, if_pos h4]
      exact Or.inr ⟨rfl, h4⟩
    · rw [if_neg h4, if_neg h4]
      refine Or.inl ⟨rfl, ?_, ?_⟩
      · split
        · exact h2
        · exact h4
      · split
        · rfl
        · rfl
  · unfold nx_s d_b
    rw [if_neg hzb, if_neg hzj, if_pos h2, h1, if_neg (nI_nm1 (by omega)), nI_clamp (by omega)]
    by_cases h4 : sa j = 4
    · rw [if_pos h4, if_pos h4]
      split
      · exact Or.inr ⟨rfl, h2⟩
      · exact Or.inr ⟨rfl, h4⟩
    · rw [if_neg h4, if_neg h4]
      exact Or.inr ⟨rfl, h2⟩
theorem nx_all (sa la bg : Nat → Int32) : d_nx sa la bg = nI (nx_s sa la bg 3 (nx_s sa la bg 2 (nx_s sa la bg 1 0))) := by
  have hfree : ∀ j b, sa b = 0 → nx_s sa la bg j b = b := fun j b h => by unfold nx_s; rw [if_pos h]
  have hnew : ∀ j b, ¬ sa b = 0 → sa j = 0 → nx_s sa la bg j b = j := fun j b h h2 => by unfold nx_s; rw [if_neg h, if_pos h2]
  have hb1 := nx_or sa la bg 1 0
  have hb2 := nx_or sa la bg 2 (nx_s sa la bg 1 0)
  unfold d_nx
  by_cases z0 : sa 0 = 0
  · rw [if_pos z0, hfree 1 0 z0, hfree 2 0 z0, hfree 3 0 z0]
    rfl
  · rw [if_neg z0]
    by_cases z1 : sa 1 = 0
    · rw [if_pos z1, hnew 1 0 z0 z1, hfree 2 1 z1, hfree 3 1 z1]
      rfl
    · rw [if_neg z1]
      have n1 : ¬ sa (nx_s sa la bg 1 0) = 0 := by rcases hb1 with h | h <;> rw [h] <;> assumption
      by_cases z2 : sa 2 = 0
      · rw [if_pos z2, hnew 2 _ n1 z2, hfree 3 2 z2]
        rfl
      · rw [if_neg z2]
        have n2 : ¬ sa (nx_s sa la bg 2 (nx_s sa la bg 1 0)) = 0 := by rcases hb2 with h | h <;> rw [h] <;> assumption
        by_cases z3 : sa 3 = 0
        · rw [if_pos z3, hnew 3 _ n2 z3]
          rfl
        · rw [if_neg z3]
          have i0 : nxI sa 0 (d_b sa la 0 (-1)) 0 := by
            unfold d_b
            by_cases h4 : sa 0 = 4
            · rw [if_pos h4, if_pos rfl]
              exact Or.inr ⟨rfl, h4⟩
            · rw [if_neg h4]
              exact Or.inl ⟨rfl, h4, rfl⟩
          have l1 := nx_lt sa la bg (n := 4) (j := 1) (b := 0) (by decide) (by decide)
          have l2 := nx_lt sa la bg (n := 4) (j := 2) (by decide) l1
          have l3 := nx_lt sa la bg (n := 4) (j := 3) (by decide) l2
          have i3 := nx_inv (la := la) (bg := bg) (j := 3) (nx_inv (la := la) (bg := bg) (j := 2) (nx_inv (la := la) (bg := bg) (j := 1) i0 (by decide) z0 z1) l1 n1 z2) l2 n2 z3
          show (if d_b4 sa la = -1 then d_c4 bg else d_b4 sa la) = _
          rcases i3 with ⟨h1, h2, h3⟩ | ⟨h1, h2⟩
          · rw [if_pos (show d_b4 sa la = -1 from h1)]
            exact h3
          · rw [if_neg (show ¬ d_b4 sa la = -1 from fun q => nI_nm1 (by omega) (h1.symm.trans q))]
            exact h1
/-- the class's best, by the same steps -/
theorem nx_eq {N : Nat} {da : Nat → Nat → Int32} {vf : Nat → Nat → Int32} (h : ∀ v, v < 4 → VR N da (vf v) v) (hN : N + 1 < 2 ^ 31) : d_v da = v_nx vf := by
  have e1 : v_n1 vf = nx_s (da 3) (da 4) (da 13) 1 0 := nx_step (h 1 (by decide)) (h 0 (by decide)) hN
  have l1 := nx_lt (da 3) (da 4) (da 13) (n := 4) (j := 1) (b := 0) (by decide) (by decide)
  have e2 : v_n2 vf = nx_s (da 3) (da 4) (da 13) 2 (nx_s (da 3) (da 4) (da 13) 1 0) := by
    unfold v_n2
    rw [e1]
    exact nx_step (h 2 (by decide)) (h _ l1) hN
  have l2 := nx_lt (da 3) (da 4) (da 13) (n := 4) (j := 2) (by decide) l1
  have e3 : v_nx vf = nx_s (da 3) (da 4) (da 13) 3 (nx_s (da 3) (da 4) (da 13) 2 (nx_s (da 3) (da 4) (da 13) 1 0)) := by
    unfold v_nx
    rw [e2]
    exact nx_step (h 3 (by decide)) (h _ l2) hN
  have l3 := nx_lt (da 3) (da 4) (da 13) (n := 4) (j := 3) (by decide) l2
  unfold d_v d_nxn
  rw [nx_all, e3, nI_clamp (by omega)]
-- a note begins
theorem VR_begin {N : Nat} {da : Nat → Nat → Int32} {di en : Nat → Int32} {vf : Nat → Nat → Int32} {i p f g : Int32} (h : ∀ v, v < 4 → VR N da (vf v) v) (hb : di 0 = en 2) (h0 : rg (en 2) 0 N) (hN : N + 1 < 2 ^ 31) : ∀ v, v < 4 → VR N (d_be da di i p f g) (e_bv vf en i p f g v) v := by
  intro v hv
  have e := nx_eq h hN
  unfold d_be e_bv
  rw [e]
  by_cases hk : v = v_nx vf
  · subst hk
    rw [if_pos rfl]
    have u : ∀ (x : Nat → Int32) (y : Int32), upd x (v_nx vf) y (v_nx vf) = y := fun x y => pk_us
    refine ⟨u _ _, (h _ hv).2.1, u _ _, u _ _, u _ _, u _ _, u _ _, u _ _, u _ _, u _ _, ⟨by decide, by decide⟩, fun _ => ⟨?_, ?_⟩⟩
    · show en 2 + 1 = upd (da 13) (v_nx vf) (di 0) (v_nx vf) + 1
      rw [u, hb]
    · show rg (upd (da 13) (v_nx vf) (di 0) (v_nx vf)) 0 N
      rw [u, hb]
      exact h0
  · rw [if_neg hk]
    have u : ∀ (x : Nat → Int32) (y : Int32), upd x (v_nx vf) y v = x v := fun x y => upd_ne hk
    obtain ⟨h1, h2, h3, h4, h5, h6, h7, h8, h9, h10, h11, h12⟩ := h v hv
    refine ⟨(u _ _).trans h1, h2, (u _ _).trans h3, (u _ _).trans h4, (u _ _).trans h5, (u _ _).trans h6, (u _ _).trans h7, (u _ _).trans h8, (u _ _).trans h9, (u _ _).trans h10, h11, fun q => ?_⟩
    have h13 : d_bg da (v_nx vf) i p f g (di 0) 13 v = da 13 v := u _ _
    rw [h13]
    exact h12 q
