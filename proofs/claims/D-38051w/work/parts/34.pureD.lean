/-! PURE: the reference's desk, in its own words: da k the array k (as the desk's references stand), di its numbers -/
set_option maxRecDepth 100000
def in_z (x lo hi : Int32) : Int32 := if x < lo then 0 else if hi < x then 0 else 1
theorem in_z_iff {x lo hi : Int32} : ¬ in_z x lo hi = 0 ↔ ¬ x < lo ∧ ¬ hi < x := by
  unfold in_z
  split
  · next h => exact ⟨fun q => absurd rfl q, fun q => absurd h q.1⟩
  · next h =>
    split
    · next h2 => exact ⟨fun q => absurd rfl q, fun q => absurd h2 q.2⟩
    · next h2 => exact ⟨fun _ => ⟨h, h2⟩, fun _ => by decide⟩
theorem in_z_01 (x lo hi : Int32) : in_z x lo hi = 0 ∨ in_z x lo hi = 1 := by
  unfold in_z
  split
  · exact Or.inl rfl
  · split
    · exact Or.inl rfl
    · exact Or.inr rfl
/-- the instrument's number j of the voice v -/
def d_q (iw fo : Nat → Int32) (v : Nat) (j : Int32) : Int32 := iw (fo v * 12 + j).toNatClampNeg
theorem d_q_in {x j : Int32} (hx : vp_in x 4) (hj : vp_in j 12) : vp_in (x * 12 + j) 48 := by
  obtain ⟨a, ha, rfl⟩ := vp_in_of hx (by decide)
  obtain ⟨b, hb, rfl⟩ := vp_in_of hj (by decide)
  rw [show (12 : Int32) = nI 12 from rfl, pk_mul, nI_add]
  exact vp_in_nI (by omega) (by decide)
def d_end (sa : Nat → Int32) (v : Nat) : Nat → Int32 := if in_z (sa v) 1 3 = 0 then sa else upd sa v 4
-- the voice that a note takes
def d_b (sa la : Nat → Int32) (v : Nat) (b : Int32) : Int32 := if sa v = 4 then (if b = -1 then nI v else if la b.toNatClampNeg ≤ la v then b else nI v) else b
def d_c (bg : Nat → Int32) (v : Nat) (b : Int32) : Int32 := if bg b.toNatClampNeg ≤ bg v then b else nI v
theorem d_b_in {sa la : Nat → Int32} {v : Nat} {b x : Int32} (e : x = d_b sa la v b) (hv : v < 4) (h : b = -1 ∨ vp_in b 4) : x = -1 ∨ vp_in x 4 := by
  rw [e]
  unfold d_b
  split
  · split
    · exact Or.inr (vp_in_nI hv (by decide))
    · split
      · exact h
      · exact Or.inr (vp_in_nI hv (by decide))
  · exact h
theorem d_c_in {bg : Nat → Int32} {v : Nat} {b x : Int32} (e : x = d_c bg v b) (hv : v < 4) (h : vp_in b 4) : vp_in x 4 := by
  rw [e]
  unfold d_c
  split
  · exact h
  · exact vp_in_nI hv (by decide)
def d_b4 (sa la : Nat → Int32) : Int32 := d_b sa la 3 (d_b sa la 2 (d_b sa la 1 (d_b sa la 0 (-1))))
def d_c4 (bg : Nat → Int32) : Int32 := d_c bg 3 (d_c bg 2 (d_c bg 1 0))
def d_nx (sa la bg : Nat → Int32) : Int32 := if sa 0 = 0 then 0 else if sa 1 = 0 then 1 else if sa 2 = 0 then 2 else if sa 3 = 0 then 3 else if d_b4 sa la = -1 then d_c4 bg else d_b4 sa la
theorem d_nx_in (sa la bg : Nat → Int32) : vp_in (d_nx sa la bg) 4 := by
  unfold d_nx
  split
  · exact vpc rfl
  · split
    · exact vpc rfl
    · split
      · exact vpc rfl
      · split
        · exact vpc rfl
        · split
          · exact d_c_in rfl (by decide) (d_c_in rfl (by decide) (d_c_in rfl (by decide) (vpc rfl)))
          · next h => exact (d_b_in rfl (by decide) (d_b_in rfl (by decide) (d_b_in rfl (by decide) (d_b_in rfl (by decide) (Or.inl rfl))))).resolve_left h
def d_nxn (sa la bg : Nat → Int32) : Nat := (d_nx sa la bg).toNatClampNeg
theorem d_nxn_lt (sa la bg : Nat → Int32) : d_nxn sa la bg < 4 := in_lt (d_nx_in sa la bg)
theorem d_nxn_eq (sa la bg : Nat → Int32) : nI (d_nxn sa la bg) = d_nx sa la bg := by
  obtain ⟨j, hj, e⟩ := vp_in_of (d_nx_in sa la bg) (by decide)
  unfold d_nxn
  rw [e, nI_clamp (by omega)]
abbrev dS : Type := (Nat → Nat → Int32) × (Nat → Int32)
/-- a note at the voice v -/
def d_bg (da : Nat → Nat → Int32) (v : Nat) (its p f g b : Int32) : Nat → Nat → Int32 := va_up (va_up (va_up (va_up (va_up (va_up (va_up (va_up (va_up (va_up da 3 (upd (da 3) v 1)) 5 (upd (da 5) v its)) 6 (upd (da 6) v p)) 7 (upd (da 7) v f)) 8 (upd (da 8) v 0)) 9 (upd (da 9) v 0)) 10 (upd (da 10) v 0)) 11 (upd (da 11) v 0)) 12 (upd (da 12) v g)) 13 (upd (da 13) v b)
def d_v (da : Nat → Nat → Int32) : Nat := d_nxn (da 3) (da 4) (da 13)
def d_be (da : Nat → Nat → Int32) (di : Nat → Int32) (its p f g : Int32) : Nat → Nat → Int32 := d_bg da (d_v da) its p f g (di 0)
def d_bi (da : Nat → Nat → Int32) (di : Nat → Int32) : Nat → Int32 := upd (upd di 1 (di 1 + mk_c (da 3 (d_v da)))) 0 (di 0 + 1)
-- tracks
def d_gs (sa ga : Nat → Int32) (v : Nat) : Nat → Int32 := if ga v = 0 then d_end sa v else sa
def d_gg (ga : Nat → Int32) (v : Nat) : Nat → Int32 := if ga v = 0 then upd ga v (-1) else ga
def d_g0 (da : Nat → Nat → Int32) : Nat → Nat → Int32 := va_up (va_up da 3 (d_gs (d_gs (d_gs (d_gs (da 3) (da 12) 0) (d_gg (da 12) 0) 1) (d_gg (d_gg (da 12) 0) 1) 2) (d_gg (d_gg (d_gg (da 12) 0) 1) 2) 3)) 12 (d_gg (d_gg (d_gg (d_gg (da 12) 0) 1) 2) 3)
def d_sl (di : Nat → Int32) : Int32 := if prm (di 9) 2 = 0 then di 6 + di 7 else di 6 - di 7
def d_t1 (s t : Nat) (S : dS) : dS := if S.1 16 ((t * 8 + s) * 3) = -1 then S else (d_be S.1 S.2 (S.1 15 t) (S.1 16 ((t * 8 + s) * 3)) (S.1 16 ((t * 8 + s) * 3 + 1)) (S.1 16 ((t * 8 + s) * 3 + 2)), d_bi S.1 S.2)
def d_bs (s : Nat) (S : dS) : dS := d_t1 s 2 (d_t1 s 1 (d_t1 s 0 (S.1, upd S.2 11 (d_sl S.2))))
def d_gt (da : Nat → Nat → Int32) (di : Nat → Int32) : dS := if di 8 = 0 then (d_g0 da, di) else if di 10 ≤ 0 then d_bs (di 9).toNatClampNeg (d_g0 da, di) else (d_g0 da, di)
-- a voice goes on
def d_ls (q : Int32 → Int32) (sa la : Nat → Int32) (v : Nat) : Nat → Int32 :=
  if sa v = 1 then (if pmn 1000000 (la v + 1000000 / q 4) = 1000000 then upd sa v 2 else sa)
  else if sa v = 2 then (if pmx (1000 * q 6) (la v - (1000000 - 1000 * q 6) / q 5 - 1) = 1000 * q 6 then upd sa v 3 else sa)
  else if sa v = 3 then sa
  else (if pmx 0 (la v - 1000000 / q 7) = 0 then upd sa v 0 else sa)
def d_ll (q : Int32 → Int32) (sa la : Nat → Int32) (v : Nat) : Nat → Int32 :=
  if sa v = 1 then upd la v (pmn 1000000 (la v + 1000000 / q 4))
  else if sa v = 2 then upd la v (pmx (1000 * q 6) (la v - (1000000 - 1000 * q 6) / q 5 - 1))
  else if sa v = 3 then upd la v (1000 * q 6)
  else upd la v (pmx 0 (la v - 1000000 / q 7))
def d_qa (da : Nat → Nat → Int32) (v : Nat) : Int32 → Int32 := d_q (da 2) (da 5) v
def d_lv (da : Nat → Nat → Int32) (v : Nat) : Nat → Nat → Int32 := va_up (va_up da 3 (d_ls (d_qa da v) (da 3) (da 4) v)) 4 (d_ll (d_qa da v) (da 3) (da 4) v)
def d_bend (da : Nat → Nat → Int32) (clk : Int32) (v : Nat) : Int32 := d_qa da v 10 * pwav (da 1) 2 (prm clk (d_qa da v 11) * 65536 / d_qa da v 11) / 1000
def d_o (da : Nat → Nat → Int32) (v : Nat) : Int32 := (pwav (da 1) (d_qa da v 0) (da 8 v) * (100 - d_qa da v 3) + pwav (da 1) (d_qa da v 1) (da 9 v) * d_qa da v 3) / 100
def d_low (da : Nat → Nat → Int32) (v : Nat) : Int32 := pkp (da 10 v + d_qa da v 8 * da 11 v / 256) 4000
def d_band (da : Nat → Nat → Int32) (v : Nat) : Int32 := pkp (da 11 v + d_qa da v 8 * (d_o da v - d_low da v - d_qa da v 9 * da 11 v / 256) / 256) 4000
/-- .. behind its level -/
def d_g2 (da : Nat → Nat → Int32) (clk : Int32) (v : Nat) : Nat → Nat → Int32 := va_up (va_up (va_up (va_up da 8 (upd (da 8) v (prm (da 8 v + pstr (da 6 v) + d_bend da clk v + 65536) 65536))) 9 (upd (da 9) v (prm (da 9 v + pstr (da 6 v) + d_bend da clk v + d_qa da v 2 + 65536) 65536))) 10 (upd (da 10) v (d_low da v))) 11 (upd (da 11) v (d_band da v))
def d_out (da : Nat → Nat → Int32) (v : Nat) : Int32 := d_low da v * da 7 v / 127 * (da 4 v / 1000) / 1000
def d_gv (clk : Int32) (da : Nat → Nat → Int32) (v : Nat) : Nat → Nat → Int32 := if da 3 v = 0 then da else if d_lv da v 3 v = 0 then d_lv da v else d_g2 (d_lv da v) clk v
def d_gr (da : Nat → Nat → Int32) (v : Nat) : Int32 := if da 3 v = 0 then 0 else if d_lv da v 3 v = 0 then 0 else d_out (d_lv da v) v
-- a sample
def d_4 (clk : Int32) (da : Nat → Nat → Int32) : Nat → Nat → Int32 := d_gv clk (d_gv clk (d_gv clk (d_gv clk da 0) 1) 2) 3
def d_m (clk gain : Int32) (da : Nat → Nat → Int32) : Int32 := (0 + d_gr da 0 + d_gr (d_gv clk da 0) 1 + d_gr (d_gv clk (d_gv clk da 0) 1) 2 + d_gr (d_gv clk (d_gv clk (d_gv clk da 0) 1) 2) 3) * gain / 16
def d_its (di : Nat → Int32) (m : Int32) (dl : Nat → Int32) : Int32 := if di 3 ≤ 0 then m else m + dl 0 * di 4 / 256
def d_dl (di : Nat → Int32) (m : Int32) (dl : Nat → Int32) : Nat → Int32 := if di 3 ≤ 0 then dl else upd (va_cpy dl dl 1 0 (di 3 - 1).toNatClampNeg) (di 3 - 1).toNatClampNeg (pkp (m + dl 0 * di 5 / 256) 100000)
def d_cl (t i : Int32) : Int32 := if t = i then 0 else 1
def d_dc (ga : Nat → Int32) (v : Nat) : Nat → Int32 := if ga v ≤ 0 then ga else upd ga v (ga v - 1)
def d_go (di : Nat → Int32) : Nat → Int32 := if di 8 = 0 then di else if di 10 + 1 = di 11 then upd (upd (upd di 10 (di 10 + 1)) 10 0) 9 (prm (di 9 + 1) 8) else upd di 10 (di 10 + 1)
def d_i5 (di : Nat → Int32) (t i h : Int32) : Nat → Int32 := upd (upd (upd (upd (upd di 15 (di 15 + d_cl t i)) 16 (di 16 + mk_x t h)) 14 (pmx (di 14) (pab t))) 13 (di 13 + 1)) 12 (di 12 + 1)
/-- behind tracks and voices: what is told -/
def d_sI (S : dS) (da : Nat → Nat → Int32) (m : Int32) : Int32 := d_its S.2 m (da 14)
def d_sA (S : dS) (da : Nat → Nat → Int32) (m : Int32) : Nat → Nat → Int32 := va_up (va_up (va_up da 14 (d_dl S.2 m (da 14))) 17 (mk_hd (da 17) (pkp (d_sI S da m) 32767))) 12 (d_dc (d_dc (d_dc (d_dc (da 12) 0) 1) 2) 3)
def d_sD (S : dS) (da : Nat → Nat → Int32) (m : Int32) : Nat → Int32 := d_go (d_i5 S.2 (pkp (d_sI S da m) 32767) (d_sI S da m) (da 17 0))
def d_smA (da : Nat → Nat → Int32) (di : Nat → Int32) : Nat → Nat → Int32 := d_sA (d_gt da di) (d_4 ((d_gt da di).2 12) (d_gt da di).1) (d_m ((d_gt da di).2 12) ((d_gt da di).2 2) (d_gt da di).1)
def d_smD (da : Nat → Nat → Int32) (di : Nat → Int32) : Nat → Int32 := d_sD (d_gt da di) (d_4 ((d_gt da di).2 12) (d_gt da di).1) (d_m ((d_gt da di).2 12) ((d_gt da di).2 2) (d_gt da di).1)
def d_smR (da : Nat → Nat → Int32) (di : Nat → Int32) : Int32 := pkp (d_sI (d_gt da di) (d_4 ((d_gt da di).2 12) (d_gt da di).1) (d_m ((d_gt da di).2 12) ((d_gt da di).2 2) (d_gt da di).1)) 32767
def d_snd (sa : Nat → Int32) : Int32 := 0 + mk_c (sa 0) + mk_c (sa 1) + mk_c (sa 2) + mk_c (sa 3)
-- a new desk, a copy
def d0 : Nat → Nat → Int32 := va_up (va_up (va_up (fun _ => fun _ => 0) 2 (upd (upd (upd (upd (upd (upd (upd (upd (upd (upd (upd (upd (upd (upd (upd (upd (upd (upd (upd (upd (upd (upd (upd (upd (upd (upd (upd (upd (fun _ => 0) 4 10) 5 10) 6 1000) 7 10) 8 128) 9 256) 11 64) 16 10) 17 10) 18 1000) 19 10) 20 128) 21 256) 23 64) 28 10) 29 10) 30 1000) 31 10) 32 128) 33 256) 35 64) 40 10) 41 10) 42 1000) 43 10) 44 128) 45 256) 47 64)) 12 (upd (upd (upd (upd (fun _ => 0) 0 (-1)) 1 (-1)) 2 (-1)) 3 (-1))) 16 (upd (upd (upd (upd (upd (upd (upd (upd (upd (upd (upd (upd (upd (upd (upd (upd (upd (upd (upd (upd (upd (upd (upd (upd (fun _ => 0) 0 (-1)) 3 (-1)) 6 (-1)) 9 (-1)) 12 (-1)) 15 (-1)) 18 (-1)) 21 (-1)) 24 (-1)) 27 (-1)) 30 (-1)) 33 (-1)) 36 (-1)) 39 (-1)) 42 (-1)) 45 (-1)) 48 (-1)) 51 (-1)) 54 (-1)) 57 (-1)) 60 (-1)) 63 (-1)) 66 (-1)) 69 (-1))
def di0 : Nat → Int32 := upd (upd (fun _ => 0) 2 64) 6 20
def dn : Nat → Nat
  | 1 => 32
  | 2 => 48
  | 14 => 200
  | 15 => 3
  | 16 => 72
  | 17 => 64
  | _ => 4
def d_cp (da : Nat → Nat → Int32) : Nat → Nat → Int32 := fun k => va_cpy (da k) (d0 k) 0 0 (dn k)
def d_ci (di : Nat → Int32) : Nat → Int32 := upd (upd (upd (upd di 13 0) 14 0) 15 0) 16 0
theorem dl_1 {x : Int32} (h : ¬ x ≤ 0) (hl : rg x 0 200) : ∃ j : Nat, j < 200 ∧ x = nI (j + 1) := by
  obtain ⟨k, hk, hk2, rfl⟩ := rg_nI hl
  rcases k with _ | k
  · exact absurd (by decide) h
  · exact ⟨k, by omega, rfl⟩
theorem d_at (t s : Nat) : (nI (t * 8) + nI s) * 3 = nI ((t * 8 + s) * 3) := by
  rw [nI_add, show (3 : Int32) = nI 3 from rfl, pk_mul]
theorem d_bi_9 (da : Nat → Nat → Int32) (di : Nat → Int32) {k : Nat} (h0 : k ≠ 0) (h1 : k ≠ 1) : d_bi da di k = di k := by
  unfold d_bi
  rw [upd_ne h0, upd_ne h1]
theorem d_t1_i (s t : Nat) (S : dS) {k : Nat} (h0 : k ≠ 0) (h1 : k ≠ 1) : (d_t1 s t S).2 k = S.2 k := by
  unfold d_t1
  split
  · rfl
  · exact d_bi_9 _ _ h0 h1
theorem d_t1_9 (s t : Nat) (S : dS) : (d_t1 s t S).2 9 = S.2 9 := d_t1_i s t S (by decide) (by decide)
theorem d_bg_o (da : Nat → Nat → Int32) (v : Nat) (a b c d e : Int32) {k : Nat} (h : k = 1 ∨ k = 2 ∨ k = 4 ∨ k = 14 ∨ k = 15 ∨ k = 16 ∨ k = 17) : d_bg da v a b c d e k = da k := by
  rcases h with rfl | rfl | rfl | rfl | rfl | rfl | rfl <;> rfl
theorem d_t1_o (s t : Nat) (S : dS) {k : Nat} (h : k = 1 ∨ k = 2 ∨ k = 4 ∨ k = 14 ∨ k = 15 ∨ k = 16 ∨ k = 17) : (d_t1 s t S).1 k = S.1 k := by
  unfold d_t1
  split
  · rfl
  · exact d_bg_o _ _ _ _ _ _ _ h
theorem d_gt_o (da : Nat → Nat → Int32) (di : Nat → Int32) {k : Nat} (h : k = 1 ∨ k = 2 ∨ k = 4 ∨ k = 14 ∨ k = 15 ∨ k = 16 ∨ k = 17) : (d_gt da di).1 k = da k := by
  have h0 : d_g0 da k = da k := by rcases h with rfl | rfl | rfl | rfl | rfl | rfl | rfl <;> rfl
  unfold d_gt
  split
  · exact h0
  · split
    · unfold d_bs
      rw [d_t1_o _ _ _ h, d_t1_o _ _ _ h, d_t1_o _ _ _ h]
      exact h0
    · exact h0
theorem d_gt_i (da : Nat → Nat → Int32) (di : Nat → Int32) {k : Nat} (h0 : k ≠ 0) (h1 : k ≠ 1) (h11 : k ≠ 11) : (d_gt da di).2 k = di k := by
  unfold d_gt
  split
  · rfl
  · split
    · unfold d_bs
      rw [d_t1_i _ _ _ h0 h1, d_t1_i _ _ _ h0 h1, d_t1_i _ _ _ h0 h1]
      exact upd_ne h11
    · rfl
theorem d_gv_k (c : Int32) (da : Nat → Nat → Int32) (v : Nat) {k : Nat} (h : k ≠ 3 ∧ k ≠ 4 ∧ k ≠ 8 ∧ k ≠ 9 ∧ k ≠ 10 ∧ k ≠ 11) : d_gv c da v k = da k := by
  have hl : d_lv da v k = da k := by
    unfold d_lv
    rw [va_up_ne _ _ h.2.1, va_up_ne _ _ h.1]
  unfold d_gv
  split
  · rfl
  · split
    · exact hl
    · unfold d_g2
      rw [va_up_ne _ _ h.2.2.2.2.2, va_up_ne _ _ h.2.2.2.2.1, va_up_ne _ _ h.2.2.2.1, va_up_ne _ _ h.2.2.1, hl]
theorem d_4_o (c : Int32) (da : Nat → Nat → Int32) {k : Nat} (h : k ≠ 3 ∧ k ≠ 4 ∧ k ≠ 8 ∧ k ≠ 9 ∧ k ≠ 10 ∧ k ≠ 11) : d_4 c da k = da k := by
  unfold d_4
  rw [d_gv_k _ _ _ h, d_gv_k _ _ _ h, d_gv_k _ _ _ h, d_gv_k _ _ _ h]
/-- a voice's numbers at another place stay -/
theorem d_gv_v (c : Int32) (da : Nat → Nat → Int32) (v : Nat) (k : Nat) {j : Nat} (h : j ≠ v) : d_gv c da v k j = da k j := by
  have u1 : ∀ (f : Nat → Int32) (x : Int32), upd f v x j = f j := fun f x => upd_ne h
  have hs : d_ls (d_qa da v) (da 3) (da 4) v j = da 3 j := by
    unfold d_ls
    split
    · split
      · exact u1 _ _
      · rfl
    · split
      · split
        · exact u1 _ _
        · rfl
      · split
        · rfl
        · split
          · exact u1 _ _
          · rfl
  have hl : d_ll (d_qa da v) (da 3) (da 4) v j = da 4 j := by
    unfold d_ll
    split
    · exact u1 _ _
    · split
      · exact u1 _ _
      · split
        · exact u1 _ _
        · exact u1 _ _
  have hv : d_lv da v k j = da k j := by
    unfold d_lv
    by_cases h4 : k = 4
    · subst h4
      rw [va_up_self]
      exact hl
    · rw [va_up_ne _ _ h4]
      by_cases h3 : k = 3
      · subst h3
        rw [va_up_self]
        exact hs
      · rw [va_up_ne _ _ h3]
  unfold d_gv
  split
  · rfl
  · split
    · exact hv
    · unfold d_g2
      by_cases h11 : k = 11
      · subst h11
        rw [va_up_self, u1]
        exact hv
      · rw [va_up_ne _ _ h11]
        by_cases h10 : k = 10
        · subst h10
          rw [va_up_self, u1]
          exact hv
        · rw [va_up_ne _ _ h10]
          by_cases h9 : k = 9
          · subst h9
            rw [va_up_self, u1]
            exact hv
          · rw [va_up_ne _ _ h9]
            by_cases h8 : k = 8
            · subst h8
              rw [va_up_self, u1]
              exact hv
            · rw [va_up_ne _ _ h8]
              exact hv
-- what is asked of a desk
def dV (da : Nat → Nat → Int32) (v : Nat) : Prop := vp_in (da 5 v) 4 ∧ vp_in (da 6 v) 48 ∧ vp_in (da 8 v) 65536 ∧ vp_in (da 9 v) 65536
def dI (iw : Nat → Int32) : Prop := ∀ k, k < 4 → IOK (fun j => iw (12 * k + j))
theorem dQ {da : Nat → Nat → Int32} {v : Nat} (h : dI (da 2)) (hv : vp_in (da 5 v) 4) : IOK (fun j => d_qa da v (nI j)) := by
  obtain ⟨k, hk, e⟩ := vp_in_of hv (by decide)
  have hj : ∀ j, j < 12 → d_qa da v (nI j) = da 2 (12 * k + j) := by
    intro j hj
    unfold d_qa d_q
    rw [e, show (12 : Int32) = nI 12 from rfl, pk_mul, nI_add, nI_clamp (by omega), Nat.mul_comm]
  have h1 := h k hk
  unfold IOK at h1 ⊢
  simp only [hj _ (show 0 < 12 by decide), hj _ (show 1 < 12 by decide), hj _ (show 2 < 12 by decide), hj _ (show 3 < 12 by decide), hj _ (show 4 < 12 by decide), hj _ (show 5 < 12 by decide), hj _ (show 6 < 12 by decide), hj _ (show 7 < 12 by decide), hj _ (show 8 < 12 by decide), hj _ (show 9 < 12 by decide), hj _ (show 10 < 12 by decide), hj _ (show 11 < 12 by decide)]
  exact h1
theorem dV_gv {c : Int32} {da : Nat → Nat → Int32} {v j : Nat} (h : j ≠ v) (hd : dV da j) : dV (d_gv c da v) j := by
  unfold dV
  rw [d_gv_v _ _ _ _ h, d_gv_v _ _ _ _ h, d_gv_v _ _ _ _ h, d_gv_v _ _ _ _ h]
  exact hd
theorem dI_gv {c : Int32} {da : Nat → Nat → Int32} {v : Nat} (h : dI (da 2)) : dI (d_gv c da v 2) := by
  rw [d_gv_k _ _ _ (by decide)]
  exact h
/-- a desk that can make a sample -/
def dP (da : Nat → Nat → Int32) (di : Nat → Int32) : Prop := vp_in (di 9) 8 ∧ (∀ v, v < 4 → dV (d_gt da di).1 v) ∧ dI ((d_gt da di).1 2) ∧ ¬ (d_gt da di).2 12 < 0 ∧ rg ((d_gt da di).2 3) 0 200
theorem d_i5_8 (di : Nat → Int32) (t i h : Int32) : d_i5 di t i h 8 = di 8 := rfl
theorem d_i5_9 (di : Nat → Int32) (t i h : Int32) : d_i5 di t i h 9 = di 9 := rfl
theorem d_i5_10 (di : Nat → Int32) (t i h : Int32) : d_i5 di t i h 10 = di 10 := rfl
theorem d_i5_11 (di : Nat → Int32) (t i h : Int32) : d_i5 di t i h 11 = di 11 := rfl
