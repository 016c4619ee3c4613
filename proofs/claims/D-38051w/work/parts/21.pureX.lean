/-! PURE: what the class's public methods ask and do -/
set_option maxRecDepth 100000
/-- an index: 0 where it is good -/
def ix_k (i n : Int32) : Int32 := if i < 0 then 1 else if i < n then 0 else 1
def fr_k (lo hi v : Int32) : Int32 := if v < lo then 1 else if hi < v then 1 else 0
def rq_k (b : Int32) : Int32 := if b = 0 then 1 else 0
theorem ix_iff {i n : Int32} : ix_k i n = 0 ↔ ¬ i < 0 ∧ i < n := by
  unfold ix_k
  split
  · next h => exact ⟨fun q => absurd q (by decide), fun q => absurd h q.1⟩
  · next h =>
    split
    · next h2 => exact ⟨fun _ => ⟨h, h2⟩, fun _ => rfl⟩
    · next h2 => exact ⟨fun q => absurd q (by decide), fun q => absurd q.2 h2⟩
theorem fr_iff {lo hi v : Int32} : fr_k lo hi v = 0 ↔ ¬ v < lo ∧ ¬ hi < v := by
  unfold fr_k
  split
  · next h => exact ⟨fun q => absurd q (by decide), fun q => absurd h q.1⟩
  · next h =>
    split
    · next h2 => exact ⟨fun q => absurd q (by decide), fun q => absurd h2 q.2⟩
    · next h2 => exact ⟨fun _ => ⟨h, h2⟩, fun _ => rfl⟩
theorem ix_lo {i n : Int32} (h : ix_k i n = 0) : ¬ i < 0 := (ix_iff.mp h).1
theorem ix_hi {i n : Int32} (h : ix_k i n = 0) : i < n := (ix_iff.mp h).2
theorem ix_nat {i n : Int32} {N : Nat} (h : ix_k i n = 0) (hn : n.toInt = N) (hN : N < 2 ^ 31) : ∃ k : Nat, k < N ∧ i = nI k := by
  obtain ⟨h1, h2⟩ := ix_iff.mp h
  obtain ⟨j, hj, rfl⟩ := nI_of h1
  rw [Int32.lt_iff_toInt_lt, nI_toInt hj, hn] at h2
  exact ⟨j, by omega, rfl⟩
theorem ix_in {i n : Int32} {N : Nat} (h : ix_k i n = 0) (hn : n.toInt ≤ N) : vp_in i N := by
  obtain ⟨h1, h2⟩ := ix_iff.mp h
  rw [Int32.lt_iff_toInt_lt] at h1 h2
  have e : (0 : Int32).toInt = 0 := by decide
  rw [e] at h1
  exact vp_in_iff.mpr ⟨by omega, by omega⟩
theorem fr_rg {lo hi v : Int32} (h : fr_k lo hi v = 0) : rg v lo.toInt hi.toInt := by
  obtain ⟨h1, h2⟩ := fr_iff.mp h
  rw [Int32.lt_iff_toInt_lt] at h1 h2
  exact ⟨by omega, by omega⟩
theorem fr_in {hi v : Int32} {N : Nat} (h : fr_k 0 hi v = 0) (hn : hi.toInt < N) : vp_in v N := by
  have h1 := fr_rg h
  have e : (0 : Int32).toInt = 0 := by decide
  rw [e] at h1
  exact rg_in h1 hn
-- what each method asks: 0 is good, 1 a bad index (or the one thing it asks), 2 a bad argument
def k_draw (p v : Int32) : Int32 := if ix_k p 32 = 0 then (if fr_k (-1000) 1000 v = 0 then 0 else 2) else 1
def k_wave (w ph : Int32) : Int32 := if ix_k w 4 = 0 then (if fr_k 0 65535 ph = 0 then 0 else 2) else 1
def k_stride (p : Int32) : Int32 := if fr_k 0 47 p = 0 then 0 else 1
def k_waves (i a b d m : Int32) : Int32 := if ix_k i 4 = 0 then (if ix_k a 4 = 0 then (if ix_k b 4 = 0 then (if fr_k (-64) 64 d = 0 then (if fr_k 0 100 m = 0 then 0 else 2) else 2) else 1) else 1) else 1
def k_env (i a d u r : Int32) : Int32 := if ix_k i 4 = 0 then (if fr_k 1 400 a = 0 then (if fr_k 1 400 d = 0 then (if fr_k 0 1000 u = 0 then (if fr_k 1 400 r = 0 then 0 else 2) else 2) else 2) else 2) else 1
def k_filter (i c d : Int32) : Int32 := if ix_k i 4 = 0 then (if fr_k 1 128 c = 0 then (if fr_k 16 256 d = 0 then 0 else 2) else 2) else 1
def k_vib (i d p : Int32) : Int32 := if ix_k i 4 = 0 then (if fr_k 0 64 d = 0 then (if fr_k 8 255 p = 0 then 0 else 2) else 2) else 1
def k_gain (v : Int32) : Int32 := if fr_k 0 256 v = 0 then 0 else 1
def k_delay (n w b : Int32) : Int32 := if fr_k 0 200 n = 0 then (if fr_k 0 256 w = 0 then (if fr_k 0 256 b = 0 then 0 else 1) else 1) else 1
def k_begin (i pi fo : Int32) : Int32 := if ix_k i 4 = 0 then (if fr_k 0 47 pi = 0 then (if fr_k 1 127 fo = 0 then 0 else 2) else 2) else 1
def k_end (v : Int32) : Int32 := if ix_k v 4 = 0 then 0 else 1
def k_write (t j pi fo ga : Int32) : Int32 := if ix_k t 3 = 0 then (if ix_k j 8 = 0 then (if fr_k (-1) 47 pi = 0 then (if pi = -1 then 0 else (if fr_k 1 127 fo = 0 then (if fr_k 1 200 ga = 0 then 0 else 2) else 2)) else 2) else 1) else 1
def k_track (t i : Int32) : Int32 := if ix_k t 3 = 0 then (if ix_k i 4 = 0 then 0 else 1) else 1
def k_tempo (t w : Int32) : Int32 := if fr_k 1 200 t = 0 then (if fr_k 0 (t - 1) w = 0 then 0 else 1) else 1
def k_play (j : Int32) : Int32 := if ix_k j 8 = 0 then 0 else 1
def k_run (n : Int32) : Int32 := if fr_k 1 200 n = 0 then 0 else 1
def k_heard (b : Int32) : Int32 := if fr_k 0 63 b = 0 then 0 else 1
def k_ofv (v w : Int32) : Int32 := if ix_k v 4 = 0 then (if fr_k 0 9 w = 0 then 0 else 2) else 1
def k_ofs (t j w : Int32) : Int32 := if ix_k t 3 = 0 then (if ix_k j 8 = 0 then (if fr_k 0 2 w = 0 then 0 else 2) else 1) else 1
def k_ind (n p : Int32) : Int32 := if ix_k p n = 0 then 0 else 1
-- what they do
def s_wav (f : Nat → Int32) (a b d m : Int32) : Nat → Int32 := upd (upd (upd (upd f 0 a) 1 b) 2 d) 3 m
def s_env (f : Nat → Int32) (a d u r : Int32) : Nat → Int32 := upd (upd (upd (upd f 4 a) 5 d) 6 u) 7 r
def s_fil (f : Nat → Int32) (c d : Int32) : Nat → Int32 := upd (upd f 8 c) 9 d
def s_vib (f : Nat → Int32) (d p : Int32) : Nat → Int32 := upd (upd f 10 d) 11 p
def s_del (mi : Nat → Int32) (n w b : Int32) : Nat → Int32 := upd (upd (upd mi 3 n) 4 w) 5 b
/-- the first k are 0 -/
def rz (k : Nat) (rw : Nat → Int32) : Nat → Int32 := fun j => if j < k then 0 else rw j
theorem rz_0 (rw : Nat → Int32) : rz 0 rw = rw := by
  funext j
  exact if_neg (by omega)
theorem rz_s (k : Nat) (rw : Nat → Int32) : upd (rz k rw) k 0 = rz (k + 1) rw := by
  funext j
  by_cases h : j = k
  · subst h
    rw [pk_us]
    exact (if_pos (by omega)).symm
  · rw [upd_ne h]
    unfold rz
    by_cases h2 : j < k
    · rw [if_pos h2, if_pos (by omega)]
    · rw [if_neg h2, if_neg (by omega)]
def v_hush (f : Nat → Int32) : Nat → Int32 := upd (upd (upd f 0 0) 1 0) 10 (-1)
def s_wr (tw : Nat → Nat → Nat → Int32) (t j : Nat) (pi fo ga : Int32) : Nat → Nat → Nat → Int32 := va_up tw t (va_up (va_up (va_up (tw t) 0 (upd (tw t 0) j pi)) 1 (upd (tw t 1) j (if pi = -1 then 0 else fo))) 2 (upd (tw t 2) j (if pi = -1 then 0 else ga)))
def s_play (en : Nat → Int32) (j : Int32) : Nat → Int32 := upd (upd (upd en 4 1) 5 j) 6 0
def p_step (en : Nat → Int32) : Int32 := if en 4 = 0 then -1 else en 5
def s_rst (mi : Nat → Int32) : Nat → Int32 := upd (upd (upd (upd mi 6 0) 7 0) 8 0) 9 0
def p_loud (mi : Nat → Int32) (lo : Int64) : UInt64 := if mi 6 = 0 then FP.dconst0 else FP.ddiv (FP.l2d lo) (FP.i2d (mi 6))
def p_tv (f : Nat → Int32) : Nat → Int32 := upd (upd (upd (upd (upd (upd (upd (upd (upd (upd (fun _ => 0) 0 (f 0)) 1 (f 1)) 2 (f 2)) 3 (f 3)) 4 (f 4)) 5 (f 6)) 6 (f 7)) 7 (f 8)) 8 (f 9)) 9 (f 10)
def p_ts (tw : Nat → Nat → Nat → Int32) (t j : Nat) : Nat → Int32 := upd (upd (upd (fun _ => 0) 0 (tw t 0 j)) 1 (tw t 1 j)) 2 (tw t 2 j)
/-- a sample, and what is kept of it -/
def mk_c (x : Int32) : Int32 := if x = 0 then 0 else 1
def mk_x (y b : Int32) : Int32 := if y ≤ 0 then 0 else if 0 < b then 0 else 1
def mk_mi (mi : Nat → Int32) (y c b : Int32) : Nat → Int32 := upd (upd (upd (upd mi 6 (mi 6 + 1)) 7 (pmx (mi 7) (pab y))) 8 (mi 8 + mk_c c)) 9 (mi 9 + mk_x y b)
def mk_hd (hd : Nat → Int32) (y : Int32) : Nat → Int32 := upd (va_cpy hd hd 0 1 63) 0 y
/-- mi, loud, heard, the engine's numbers, its voices, its row -/
abbrev rS : Type := (Nat → Int32) × Int64 × (Nat → Int32) × (Nat → Int32) × (Nat → Nat → Int32) × (Nat → Int32)
def mk1 (dr : Nat → Int32) (ig tr : Nat → Nat → Int32) (tw : Nat → Nat → Nat → Int32) (S : rS) : rS :=
  (mk_mi S.1 (smp_r dr ig S.1 tr tw (S.2.2.2.2.1, S.2.2.2.1) S.2.2.2.2.2) (smp_e dr ig S.1 tr tw (S.2.2.2.2.1, S.2.2.2.1) S.2.2.2.2.2 8) (S.2.2.1 0),
   S.2.1 + Int32.toInt64 (pab (smp_r dr ig S.1 tr tw (S.2.2.2.2.1, S.2.2.2.1) S.2.2.2.2.2)),
   mk_hd S.2.2.1 (smp_r dr ig S.1 tr tw (S.2.2.2.2.1, S.2.2.2.1) S.2.2.2.2.2),
   smp_e dr ig S.1 tr tw (S.2.2.2.2.1, S.2.2.2.1) S.2.2.2.2.2,
   smp_v dr ig S.1 tr tw (S.2.2.2.2.1, S.2.2.2.1),
   smp_w dr ig S.1 tr tw (S.2.2.2.2.1, S.2.2.2.1) S.2.2.2.2.2)
def mkN (dr : Nat → Int32) (ig tr : Nat → Nat → Int32) (tw : Nat → Nat → Nat → Int32) (S : rS) : Nat → rS
  | 0 => S
  | n + 1 => mk1 dr ig tr tw (mkN dr ig tr tw S n)
/-- an engine alone goes on: numbers, voices, row -/
abbrev aS : Type := (Nat → Int32) × (Nat → Nat → Int32) × (Nat → Int32)
def ah1 (dr : Nat → Int32) (ig : Nat → Nat → Int32) (mi : Nat → Int32) (tr : Nat → Nat → Int32) (tw : Nat → Nat → Nat → Int32) (S : aS) : aS := (smp_e dr ig mi tr tw (S.2.1, S.1) S.2.2, smp_v dr ig mi tr tw (S.2.1, S.1), smp_w dr ig mi tr tw (S.2.1, S.1) S.2.2)
def ahN (dr : Nat → Int32) (ig : Nat → Nat → Int32) (mi : Nat → Int32) (tr : Nat → Nat → Int32) (tw : Nat → Nat → Nat → Int32) (S : aS) : Nat → aS
  | 0 => S
  | n + 1 => ah1 dr ig mi tr tw (ahN dr ig mi tr tw S n)
def ahR (dr : Nat → Int32) (ig : Nat → Nat → Int32) (mi : Nat → Int32) (tr : Nat → Nat → Int32) (tw : Nat → Nat → Nat → Int32) (S : aS) : Int32 := smp_r dr ig mi tr tw (S.2.1, S.1) S.2.2
/-- the most of n samples -/
def ahP (dr : Nat → Int32) (ig : Nat → Nat → Int32) (mi : Nat → Int32) (tr : Nat → Nat → Int32) (tw : Nat → Nat → Nat → Int32) (S : aS) : Nat → Int32
  | 0 => 0
  | n + 1 => pmx (ahP dr ig mi tr tw S n) (pab (ahR dr ig mi tr tw (ahN dr ig mi tr tw S n)))
/-- the first of k, k + 1 .. n (d of them left) where it is silent -/
def ahS (f : Nat → Int32) : Nat → Nat → Int32
  | 0, _ => -1
  | d + 1, k => if f k = 0 then nI k else ahS f d (k + 1)
theorem ix_lt {i n : Int32} {k N : Nat} (hb : ix_k i n = 0) (hk : i.toNatClampNeg = k) (hn : n.toInt ≤ N) : k < N := by
  have h := in_lt (ix_in hb hn)
  rwa [hk] at h
/-- a place in the delay's row -/
theorem ind_1 {p n : Int32} (h : ix_k p n = 0) : ¬ n = 0 := by
  rintro rfl
  obtain ⟨h1, h2⟩ := ix_iff.mp h
  exact h1 h2
theorem ind_2 {p n a : Int32} (h : ix_k p n = 0) (hl : rg n 0 200) (hh : ¬ n ≤ 0 → vp_in a 200) : vp_in (prm (a + p) n) 200 := by
  obtain ⟨k, hk, hk2, rfl⟩ := rg_nI hl
  obtain ⟨j, hj, rfl⟩ := ix_nat h (nI_toInt hk2) hk2
  have h0 : 0 < k := by omega
  obtain ⟨i, hi, rfl⟩ := vp_in_of (hh (nI_nle h0 hk2)) (by decide)
  rw [nI_add]
  unfold prm
  rw [pk_rem (by omega) h0 hk2]
  have := Nat.mod_lt (i + j) h0
  exact vp_in_nI (by omega) (by decide)
-- the words of a throw, by their places
theorem lw_in_tbl (ws : List Cond) (ps : List Nat) (hp : ws = ps.filterMap (fun i => lw_tbl[i]?)) : ∀ w ∈ ws, w ∈ lw_tbl := by
  intro w h
  rw [hp] at h
  obtain ⟨i, -, hi⟩ := List.mem_filterMap.mp h
  exact List.mem_of_getElem? hi
theorem thIA_in : ∀ w ∈ vx_at0 RX1 3 "java/lang/IllegalArgumentException" ["java/lang/RuntimeException", "java/lang/Exception"], w ∈ lw_tbl := lw_in_tbl _ [40, 608, 617, 621, 624, 626, 609, 610, 55, 56, 611, 616, 622, 639, 598, 640, 600, 641, 602, 612, 614, 604, 628, 629, 630, 631, 589, 631, 632, 633, 634, 591, 634, 635, 636, 609, 593, 627, 587, 588, 595, 596, 597, 599, 601, 603, 607, 606, 605] (by decide +kernel)
theorem thIA_ok : ∀ w ∈ vx_at0 RX1 3 "java/lang/IllegalArgumentException" ["java/lang/RuntimeException", "java/lang/Exception"], (goodWord w || (gNb w && w.onTables)) = true := List.all_eq_true.mp (show (vx_at0 RX1 3 "java/lang/IllegalArgumentException" ["java/lang/RuntimeException", "java/lang/Exception"]).all (fun w => goodWord w || (gNb w && w.onTables)) = true by decide +kernel)
theorem thIO_in : ∀ w ∈ vx_at0 RX1 9 "java/lang/IndexOutOfBoundsException" ["java/lang/RuntimeException", "java/lang/Exception"], w ∈ lw_tbl := lw_in_tbl _ [40, 608, 617, 621, 624, 626, 609, 610, 55, 56, 611, 616, 622, 639, 598, 640, 600, 641, 602, 612, 614, 604, 682, 683, 684, 631, 589, 631, 632, 633, 634, 591, 634, 635, 636, 609, 593, 681, 673, 674, 675, 620, 676, 677, 678, 679, 607, 606, 680] (by decide +kernel)
theorem thIO_ok : ∀ w ∈ vx_at0 RX1 9 "java/lang/IndexOutOfBoundsException" ["java/lang/RuntimeException", "java/lang/Exception"], (goodWord w || (gNb w && w.onTables)) = true := List.all_eq_true.mp (show (vx_at0 RX1 9 "java/lang/IndexOutOfBoundsException" ["java/lang/RuntimeException", "java/lang/Exception"]).all (fun w => goodWord w || (gNb w && w.onTables)) = true by decide +kernel)
