/-! PURE: the reference's public methods -/
set_option maxRecDepth 100000
def cn {α : Type} (k : Int32) (a b : α) : α := if k = 0 then a else b
def d_draw (p v : Int32) : Int32 := if in_z p 0 31 = 0 then 1 else if in_z v (-1000) 1000 = 0 then 2 else 0
def d_wave (w ph : Int32) : Int32 := if in_z w 0 3 = 0 then 1 else if in_z ph 0 65535 = 0 then 2 else 0
def d_stride (p : Int32) : Int32 := if in_z p 0 47 = 0 then 1 else 0
def d_waves (i a b d m : Int32) : Int32 := if in_z i 0 3 = 0 then 1 else if in_z a 0 3 = 0 then 1 else if in_z b 0 3 = 0 then 1 else if in_z d (-64) 64 = 0 then 2 else if in_z m 0 100 = 0 then 2 else 0
def d_env (i a d u r : Int32) : Int32 := if in_z i 0 3 = 0 then 1 else if in_z a 1 400 = 0 then 2 else if in_z d 1 400 = 0 then 2 else if in_z u 0 1000 = 0 then 2 else if in_z r 1 400 = 0 then 2 else 0
def d_filter (i c d : Int32) : Int32 := if in_z i 0 3 = 0 then 1 else if in_z c 1 128 = 0 then 2 else if in_z d 16 256 = 0 then 2 else 0
def d_vib (i d p : Int32) : Int32 := if in_z i 0 3 = 0 then 1 else if in_z d 0 64 = 0 then 2 else if in_z p 8 255 = 0 then 2 else 0
def d_gain (v : Int32) : Int32 := if in_z v 0 256 = 0 then 1 else 0
def d_delay (n w b : Int32) : Int32 := if in_z n 0 200 = 0 then 1 else if in_z w 0 256 = 0 then 1 else if in_z b 0 256 = 0 then 1 else 0
def d_begin (i p f : Int32) : Int32 := if in_z i 0 3 = 0 then 1 else if in_z p 0 47 = 0 then 2 else if in_z f 1 127 = 0 then 2 else 0
def d_endk (v : Int32) : Int32 := if in_z v 0 3 = 0 then 1 else 0
def d_write (t j p f g : Int32) : Int32 := if in_z t 0 2 = 0 then 1 else if in_z j 0 7 = 0 then 1 else if in_z p (-1) 47 = 0 then 2 else if p = -1 then 0 else if in_z f 1 127 = 0 then 2 else if in_z g 1 200 = 0 then 2 else 0
def d_track (t i : Int32) : Int32 := if in_z t 0 2 = 0 then 1 else if in_z i 0 3 = 0 then 1 else 0
def d_tempo (t w : Int32) : Int32 := if in_z t 1 200 = 0 then 1 else if in_z w 0 (t - 1) = 0 then 1 else 0
def d_play (j : Int32) : Int32 := if in_z j 0 7 = 0 then 1 else 0
def d_run (n : Int32) : Int32 := if in_z n 1 200 = 0 then 1 else 0
def d_heard (b : Int32) : Int32 := if in_z b 0 63 = 0 then 1 else 0
def d_ofv (v w : Int32) : Int32 := if in_z v 0 3 = 0 then 1 else if in_z w 0 9 = 0 then 2 else 0
def d_ofs (t j w : Int32) : Int32 := if in_z t 0 2 = 0 then 1 else if in_z j 0 7 = 0 then 1 else if in_z w 0 2 = 0 then 2 else 0
def d_ind (n p : Int32) : Int32 := if in_z p 0 (n - 1) = 0 then 1 else 0
theorem iz_in {x hi : Int32} {N : Nat} (h : ¬ in_z x 0 hi = 0) (hn : hi.toInt < N) : vp_in x N := by
  obtain ⟨h1, h2⟩ := in_z_iff.mp h
  rw [Int32.lt_iff_toInt_lt] at h1 h2
  have e : (0 : Int32).toInt = 0 := by decide
  rw [e] at h1
  exact vp_in_iff.mpr ⟨by omega, by omega⟩
theorem iz_nat {x hi : Int32} {N : Nat} (h : ¬ in_z x 0 hi = 0) (hn : hi.toInt < N) (hN : N < 2 ^ 31) : ∃ j : Nat, j < N ∧ x = nI j := vp_in_of (iz_in h hn) hN
theorem iz_1 {x : Int32} (h : ¬ in_z x 1 200 = 0) : ∃ j : Nat, 1 ≤ j ∧ j ≤ 200 ∧ x = nI j := by
  obtain ⟨h1, h2⟩ := in_z_iff.mp h
  exact fr_nat (fr_iff.mpr ⟨h1, h2⟩)
/-- a row of an instrument's numbers: places -/
theorem it_2 {i j : Int32} (hi : vp_in i 4) (hj : vp_in j 12) : ¬ i * 12 + j < 0 := fun q => d_q_in hi hj (Or.inl q)
theorem it_3 {i j : Int32} {n : Nat} (hi : vp_in i 4) (hj : vp_in j 12) (h : j.toNatClampNeg + n ≤ 12) : (i * 12 + j).toNatClampNeg + n ≤ 48 := by
  obtain ⟨a, ha, rfl⟩ := vp_in_of hi (by decide)
  obtain ⟨b, hb, rfl⟩ := vp_in_of hj (by decide)
  rw [nI_clamp (by omega)] at h
  rw [show (12 : Int32) = nI 12 from rfl, pk_mul, nI_add, nI_clamp (by omega)]
  omega
def d_n4 (a b c d : Int32) : Nat → Int32 := upd (upd (upd (upd (fun _ => 0) 0 a) 1 b) 2 c) 3 d
def d_n2 (a b : Int32) : Nat → Int32 := upd (upd (fun _ => 0) 0 a) 1 b
def d_put (iw nu : Nat → Int32) (i fr : Int32) (n : Nat) : Nat → Int32 := va_cpy nu iw 0 (i * 12 + fr).toNatClampNeg n
def d_h0 (f : Nat → Int32) (x : Int32) : Nat → Int32 := upd (upd (upd (upd f 0 x) 1 x) 2 x) 3 x
def d_wr (f : Nat → Int32) (a : Nat) (p fo ga : Int32) : Nat → Int32 := upd (upd (upd f a p) (a + 1) (if p = -1 then 0 else fo)) (a + 2) (if p = -1 then 0 else ga)
def d_step (di : Nat → Int32) : Int32 := if di 8 = 0 then -1 else di 9
def d_loud (di : Nat → Int32) (sm : Int64) : UInt64 := if di 13 = 0 then FP.dconst0 else FP.ddiv (FP.l2d sm) (FP.i2d (di 13))
def d_tv (da : Nat → Nat → Int32) (v : Nat) (w : Int32) : Int32 := if w = 0 then da 3 v else if w = 1 then da 4 v else if w = 2 then da 5 v else if w = 3 then da 6 v else if w = 4 then da 7 v else if w = 5 then da 8 v else if w = 6 then da 9 v else if w = 7 then da 10 v else if w = 8 then da 11 v else da 12 v
def d_rst (di : Nat → Int32) : Nat → Int32 := upd (upd (upd (upd di 13 0) 14 0) 15 0) 16 0
-- samples, one behind the other
abbrev tS : Type := (Nat → Nat → Int32) × (Nat → Int32) × Int64
def dm1 (S : tS) : tS := (d_smA S.1 S.2.1, d_smD S.1 S.2.1, S.2.2 + Int32.toInt64 (pab (d_smR S.1 S.2.1)))
def dmN (S : tS) : Nat → tS
  | 0 => S
  | n + 1 => dm1 (dmN S n)
def dmL (S : tS) : Nat → Int32
  | 0 => 0
  | n + 1 => d_smR (dmN S n).1 (dmN S n).2.1
def dmP (S : tS) : Nat → Int32
  | 0 => 0
  | n + 1 => pmx (dmP S n) (pab (d_smR (dmN S n).1 (dmN S n).2.1))
-- digests: 31 times, and the next
def d_dl8 (da : Nat → Nat → Int32) (di : Nat → Int32) (s : Int64) : Int64 := dg (dg (dg (dg (dg (dg (dg (dg s (di 14)) (di 15)) (di 16)) (d_snd (da 3))) (di 1)) (mk_c (di 8))) (d_step di)) (nI (d_v da))
def d_dig (da : Nat → Nat → Int32) (di : Nat → Int32) : Int64 := dgN (da 14) (dgN (da 16) (dgM (fun v w => d_tv da v (nI w)) 10 (d_dl8 da di (dgN (da 17) (1799581 + Int32.toInt64 (di 12)) 8)) 4) 72) (di 3).toNatClampNeg
theorem dl_2 {x : Int32} (hl : rg x 0 200) : (x - 1).toInt < ((200 : Nat) : Int) := by
  obtain ⟨k, hk, hk2, rfl⟩ := rg_nI hl
  rcases k with _ | k
  · rw [show nI 0 - 1 = (-1 : Int32) by decide]
    decide
  · rw [show nI (k + 1) - 1 = nI k from pk_sub (a := k + 1) (b := 1) (by omega), nI_toInt (by omega)]
    omega
def w_pl (x : Int32) : Int64 := if x = 0 then 0 else 1
theorem dmN_0 {S : tS} : dmN S 0 = S := rfl
theorem dmN_s {S : tS} (n : Nat) : dmN S (n + 1) = dm1 (dmN S n) := rfl
theorem dmL_s {S : tS} (n : Nat) : dmL S (n + 1) = d_smR (dmN S n).1 (dmN S n).2.1 := rfl
theorem dmP_s {S : tS} (n : Nat) : dmP S (n + 1) = pmx (dmP S n) (pab (d_smR (dmN S n).1 (dmN S n).2.1)) := rfl
