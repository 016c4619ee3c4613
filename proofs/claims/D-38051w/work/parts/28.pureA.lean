/-! PURE: fresh addresses, what holds of an engine that goes on, digests -/
set_option maxRecDepth 100000
def mkL (l : List Nat) : Nat → Nat := fun k => l.getD k 0
theorem up4 {f : Nat → Option Nat} {a b c d : Nat} (h0 : f 0 = some a) (h1 : f 1 = some b) (h2 : f 2 = some c) (h3 : f 3 = some d) (h4 : ∀ k, 4 ≤ k → f k = none) : va_up (va_up (va_up (va_up (fun _ => none) 0 (some a)) 1 (some b)) 2 (some c)) 3 (some d) = f := by
  funext k
  rcases Nat.lt_or_ge k 4 with h | h
  · rcases (show k = 0 ∨ k = 1 ∨ k = 2 ∨ k = 3 by omega) with rfl | rfl | rfl | rfl
    · exact h0.symm
    · exact h1.symm
    · exact h2.symm
    · exact h3.symm
  · rw [h4 k h]
    unfold va_up
    rw [if_neg (by omega), if_neg (by omega), if_neg (by omega), if_neg (by omega)]
theorem up3 {f : Nat → Option Nat} {a b c : Nat} (h0 : f 0 = some a) (h1 : f 1 = some b) (h2 : f 2 = some c) (h4 : ∀ k, 3 ≤ k → f k = none) : va_up (va_up (va_up (fun _ => none) 0 (some a)) 1 (some b)) 2 (some c) = f := by
  funext k
  rcases Nat.lt_or_ge k 3 with h | h
  · rcases (show k = 0 ∨ k = 1 ∨ k = 2 by omega) with rfl | rfl | rfl
    · exact h0.symm
    · exact h1.symm
    · exact h2.symm
  · rw [h4 k h]
    unfold va_up
    rw [if_neg (by omega), if_neg (by omega), if_neg (by omega)]
theorem vq_of {ed : Nat → Nat} {a b c d : Nat} (h0 : ed 3 = a) (h1 : ed 4 = b) (h2 : ed 5 = c) (h3 : ed 6 = d) : va_up (va_up (va_up (va_up (fun _ => none) 0 (some a)) 1 (some b)) 2 (some c)) 3 (some d) = vq ed := by
  subst h0; subst h1; subst h2; subst h3
  exact up4 rfl rfl rfl rfl (fun k hk => if_neg (by omega))
theorem iq_of {ad : Nat → Nat} {a b c d : Nat} (h0 : ad 4 = a) (h1 : ad 5 = b) (h2 : ad 6 = c) (h3 : ad 7 = d) : va_up (va_up (va_up (va_up (fun _ => none) 0 (some a)) 1 (some b)) 2 (some c)) 3 (some d) = iq ad := by
  subst h0; subst h1; subst h2; subst h3
  exact up4 rfl rfl rfl rfl (fun k hk => if_neg (by omega))
theorem tq_of {ad : Nat → Nat} {a b c : Nat} (h0 : ad 10 = a) (h1 : ad 11 = b) (h2 : ad 12 = c) : va_up (va_up (va_up (fun _ => none) 0 (some a)) 1 (some b)) 2 (some c) = tq ad := by
  subst h0; subst h1; subst h2
  exact up3 rfl rfl rfl (fun k hk => if_neg (by omega))
/-- a copied engine's numbers and row; a new instrument; a new track's pitches; a new class's numbers -/
def e_cp (en : Nat → Int32) : Nat → Int32 := upd en 8 0
def rcp (rw : Nat → Int32) : Nat → Int32 := va_cpy rw (fun _ => 0) 0 0 200
def i0 : Nat → Int32 := upd (upd (upd (upd (upd (upd (upd (fun _ => 0) 4 10) 5 10) 6 1000) 7 10) 8 128) 9 256) 11 64
def tp0 : Nat → Int32 := upd (upd (upd (upd (upd (upd (upd (upd (fun _ => 0) 0 (-1)) 1 (-1)) 2 (-1)) 3 (-1)) 4 (-1)) 5 (-1)) 6 (-1)) 7 (-1)
def mi0 : Nat → Int32 := upd (upd (fun _ => 0) 0 20) 2 64
def v0 : Nat → Int32 := upd (fun _ => 0) 10 (-1)
def z0 : Nat → Int32 := fun _ => 0
-- an engine that goes on
theorem v_filt_o (q f : Nat → Int32) (o : Int32) {k : Nat} (h8 : k ≠ 8) (h9 : k ≠ 9) : v_filt q f o k = f k := by
  unfold v_filt
  rw [upd_ne h9, upd_ne h8]
theorem v_dec_o (f : Nat → Int32) {k : Nat} (h : k ≠ 10) : v_dec f k = f k := by
  unfold v_dec
  split
  · rfl
  · exact upd_ne h
theorem VOK_gf {dr q f : Nat → Int32} {clk : Int32} (h : VOK f) : VOK (gv_f dr q clk f) := by
  unfold gv_f
  split
  · exact h
  · have hg : ∀ k, k ≠ 0 → k ≠ 1 → v_grow q f k = f k := fun k h0 h1 => v_grow_o q f h0 h1
    split
    · unfold VOK
      rw [hg 2 (by decide) (by decide), hg 3 (by decide) (by decide), hg 6 (by decide) (by decide), hg 7 (by decide) (by decide)]
      exact h
    · unfold VOK
      rw [v_filt_o _ _ _ (by decide) (by decide), v_filt_o _ _ _ (by decide) (by decide), v_filt_o _ _ _ (by decide) (by decide), v_filt_o _ _ _ (by decide) (by decide)]
      unfold gv_2
      rw [upd_ne (by decide), upd_ne (by decide), upd_ne (by decide), upd_ne (by decide), upd_ne (by decide), pk_us, pk_us]
      rw [hg 2 (by decide) (by decide), hg 3 (by decide) (by decide)]
      exact ⟨h.1, h.2.1, pfm_in _, pfm_in _⟩
theorem VOK_e {dr : Nat → Int32} {ig : Nat → Nat → Int32} {f : Nat → Int32} {clk : Int32} (h : VOK f) : VOK (e_gf dr ig clk f) := by
  have h1 := VOK_gf (dr := dr) (q := ig (f 2).toNatClampNeg) (clk := clk) h
  unfold e_gf VOK
  rw [v_dec_o _ (by decide), v_dec_o _ (by decide), v_dec_o _ (by decide), v_dec_o _ (by decide)]
  exact h1
/-- what holds of an engine: N bounds its clock -/
def eOK (N : Nat) (mi en : Nat → Int32) (vf : Nat → Nat → Int32) : Prop := (∀ k, k < 4 → VOK (vf k)) ∧ vp_in (en 5) 8 ∧ rg (en 1) 0 N ∧ rg (mi 3) 0 200 ∧ (¬ mi 3 ≤ 0 → vp_in (en 0) (mi 3).toNatClampNeg) ∧ (en 4 = 0 ∨ en 4 = 1)
theorem vp_in_mono {x : Int32} {a b : Nat} (h : vp_in x a) (hab : a ≤ b) : vp_in x b := by
  have h1 := vp_in_iff.mp h
  exact vp_in_iff.mpr ⟨h1.1, by omega⟩
theorem rg_clamp {x : Int32} {hi : Nat} (h : rg x 0 hi) : x.toNatClampNeg ≤ hi := by
  obtain ⟨j, hj, hj2, rfl⟩ := rg_nI h
  rw [nI_clamp hj2]
  omega
theorem eOK.hh {N : Nat} {mi en : Nat → Int32} {vf : Nat → Nat → Int32} (h : eOK N mi en vf) : ¬ mi 3 ≤ 0 → vp_in (en 0) 200 := fun q => vp_in_mono (h.2.2.2.2.1 q) (rg_clamp h.2.2.2.1)
theorem eOK.hc {N : Nat} {mi en : Nat → Int32} {vf : Nat → Nat → Int32} (h : eOK N mi en vf) : ¬ en 1 < 0 := by
  rw [Int32.lt_iff_toInt_lt, show (0 : Int32).toInt = 0 by decide]
  have := h.2.2.1.1
  omega
theorem e_tr_5 {mi : Nat → Int32} {tr : Nat → Nat → Int32} {tw : Nat → Nat → Nat → Int32} {S : eS} (hs : vp_in (S.2 5) 8) : vp_in ((e_tr mi tr tw S).2 5) 8 := by
  unfold e_tr
  split
  · exact hs
  · have h5 : (e_t2 mi tr tw (fun k => v_gate (S.1 k), S.2)).2 5 = S.2 5 := by
      unfold e_t2
      split
      · exact e_bs_o (by decide) (by decide) (by decide)
      · rfl
    show vp_in (e_go (e_t2 mi tr tw (fun k => v_gate (S.1 k), S.2)).2 5) 8
    unfold e_go
    rw [h5]
    split
    · rw [pk_us]
      obtain ⟨j, hj, e⟩ := vp_in_of hs (by decide)
      rw [e]
      show vp_in (prm (nI j + 1) (nI 8)) 8
      rw [nI_1]
      unfold prm
      rw [pk_rem (by omega) (by decide) (by decide)]
      exact vp_in_nI (Nat.mod_lt _ (by decide)) (by decide)
    · rw [upd_ne (by decide), h5]
      exact hs
theorem smp_e_o {dr : Nat → Int32} {ig : Nat → Nat → Int32} {mi : Nat → Int32} {tr : Nat → Nat → Int32} {tw : Nat → Nat → Nat → Int32} {S : eS} {rw : Nat → Int32} {k : Nat} (h0 : k ≠ 0) (h1 : k ≠ 1) (h8 : k ≠ 8) : smp_e dr ig mi tr tw S rw k = (e_tr mi tr tw S).2 k := by
  unfold smp_e s_en
  rw [upd_ne h8, upd_ne h1]
  unfold s_hd
  split
  · rfl
  · exact upd_ne h0
theorem smp_e_1 {dr : Nat → Int32} {ig : Nat → Nat → Int32} {mi : Nat → Int32} {tr : Nat → Nat → Int32} {tw : Nat → Nat → Nat → Int32} {S : eS} {rw : Nat → Int32} : smp_e dr ig mi tr tw S rw 1 = S.2 1 + 1 := by
  unfold smp_e s_en
  rw [upd_ne (by decide), pk_us, e_tr_o (by decide) (by decide) (by decide) (by decide) (by decide)]
theorem smp_e_0 {dr : Nat → Int32} {ig : Nat → Nat → Int32} {mi : Nat → Int32} {tr : Nat → Nat → Int32} {tw : Nat → Nat → Nat → Int32} {S : eS} {rw : Nat → Int32} (h : ¬ mi 3 ≤ 0) : smp_e dr ig mi tr tw S rw 0 = prm (S.2 0 + 1) (mi 3) := by
  unfold smp_e s_en
  rw [upd_ne (by decide), upd_ne (by decide)]
  unfold s_hd
  rw [if_neg h, pk_us, e_tr_o (by decide) (by decide) (by decide) (by decide) (by decide)]
theorem eOK_s {N : Nat} {dr : Nat → Int32} {ig : Nat → Nat → Int32} {mi : Nat → Int32} {tr : Nat → Nat → Int32} {tw : Nat → Nat → Nat → Int32} {en rw : Nat → Int32} {vf : Nat → Nat → Int32} (h : eOK N mi en vf) (hT : TOK tr tw) (hN : N + 1 < 2 ^ 31) : eOK (N + 1) mi (smp_e dr ig mi tr tw (vf, en) rw) (smp_v dr ig mi tr tw (vf, en)) := by
  obtain ⟨hV, hs, hc, hl, hh, hp⟩ := h
  have hV1 := VOK_tr (mi := mi) (S := (vf, en)) hT hs hV
  refine ⟨fun k hk => VOK_e (hV1 k hk), ?_, ?_, hl, fun q => ?_, ?_⟩
  · rw [smp_e_o (by decide) (by decide) (by decide)]
    exact e_tr_5 hs
  · rw [smp_e_1]
    obtain ⟨j, hj, hj2, e⟩ := rg_nI hc
    show rg (en 1 + 1) 0 _
    rw [e, nI_1]
    unfold rg
    rw [nI_toInt (by omega)]
    omega
  · rw [smp_e_0 q]
    obtain ⟨k, hk, hk2, e⟩ := rg_nI hl
    have h0 : 0 < k := by
      rcases Nat.eq_zero_or_pos k with z | z
      · exact absurd (by rw [e, z]; decide) q
      · exact z
    obtain ⟨j, hj, e2⟩ := vp_in_of (hh q) (by rw [e, nI_clamp hk2]; omega)
    show vp_in (prm (en 0 + 1) (mi 3)) _
    rw [e2, e, nI_1, nI_clamp hk2]
    rw [e, nI_clamp hk2] at hj
    unfold prm
    rw [pk_rem (by omega) h0 hk2]
    exact vp_in_nI (Nat.mod_lt _ h0) hk2
  · rw [smp_e_o (by decide) (by decide) (by decide)]
    have e4 : (e_tr mi tr tw (vf, en)).2 4 = en 4 := e_tr_o (by decide) (by decide) (by decide) (by decide) (by decide)
    rw [e4]
    exact hp
theorem mk_mi_o {mi : Nat → Int32} {y c b : Int32} {k : Nat} (h : k < 6) : mk_mi mi y c b k = mi k := by
  unfold mk_mi
  rw [upd_ne (by omega), upd_ne (by omega), upd_ne (by omega), upd_ne (by omega)]
theorem eOK_mi {N : Nat} {mi mj en : Nat → Int32} {vf : Nat → Nat → Int32} (h : eOK N mi en vf) (e : mj 3 = mi 3) : eOK N mj en vf := by
  unfold eOK at h ⊢
  rw [e]
  exact h
def rOK (N : Nat) (S : rS) : Prop := eOK N S.1 S.2.2.2.1 S.2.2.2.2.1
theorem mk1_o {dr : Nat → Int32} {ig tr : Nat → Nat → Int32} {tw : Nat → Nat → Nat → Int32} {S : rS} {k : Nat} (h : k < 6) : (mk1 dr ig tr tw S).1 k = S.1 k := by
  unfold mk1
  exact mk_mi_o h
theorem rOK_s {N : Nat} {dr : Nat → Int32} {ig tr : Nat → Nat → Int32} {tw : Nat → Nat → Nat → Int32} {S : rS} (h : rOK N S) (hT : TOK tr tw) (hN : N + 1 < 2 ^ 31) : rOK (N + 1) (mk1 dr ig tr tw S) := eOK_mi (eOK_s (dr := dr) (ig := ig) (rw := S.2.2.2.2.2) h hT hN) (mk1_o (by decide))
theorem rOK_N {N : Nat} {dr : Nat → Int32} {ig tr : Nat → Nat → Int32} {tw : Nat → Nat → Nat → Int32} {S : rS} (h : rOK N S) (hT : TOK tr tw) : ∀ n : Nat, N + n < 2 ^ 31 → rOK (N + n) (mkN dr ig tr tw S n)
  | 0, _ => h
  | n + 1, hn => rOK_s (rOK_N h hT n (by omega)) hT (by omega)
def aOK (N : Nat) (mi : Nat → Int32) (S : aS) : Prop := eOK N mi S.1 S.2.1
theorem aOK_N {N : Nat} {dr : Nat → Int32} {ig : Nat → Nat → Int32} {mi : Nat → Int32} {tr : Nat → Nat → Int32} {tw : Nat → Nat → Nat → Int32} {S : aS} (h : aOK N mi S) (hT : TOK tr tw) : ∀ n : Nat, N + n < 2 ^ 31 → aOK (N + n) mi (ahN dr ig mi tr tw S n)
  | 0, _ => h
  | n + 1, hn => eOK_s (aOK_N h hT n (by omega)) hT (by omega)
theorem eOK_cp {N : Nat} {mi en : Nat → Int32} {vf : Nat → Nat → Int32} (h : eOK N mi en vf) : eOK N mi (e_cp en) vf := h
theorem fr_nat {n : Int32} (h : fr_k 1 200 n = 0) : ∃ j : Nat, 1 ≤ j ∧ j ≤ 200 ∧ n = nI j := by
  have h1 := fr_rg h
  rw [show (1 : Int32).toInt = 1 by decide, show (200 : Int32).toInt = 200 by decide] at h1
  obtain ⟨j, hj, hj2, rfl⟩ := rg_nI (x := n) (hi := 200) ⟨by have := h1.1; omega, h1.2⟩
  have h2 := h1.1
  rw [nI_toInt hj2] at h2
  exact ⟨j, by omega, by omega, rfl⟩
theorem ahS_go {f : Nat → Int32} {N k : Nat} (hk : k < N) (h : ¬ f k = 0) : ahS f (N - k) k = ahS f (N - (k + 1)) (k + 1) := by
  obtain ⟨d, hd⟩ : ∃ d, N - k = d + 1 := ⟨N - k - 1, by omega⟩
  have hd2 : N - (k + 1) = d := by omega
  rw [hd, hd2]
  show (if f k = 0 then nI k else ahS f d (k + 1)) = _
  rw [if_neg h]
theorem ahS_is {f : Nat → Int32} {N k : Nat} (hk : k < N) (h : f k = 0) : ahS f (N - k) k = nI k := by
  obtain ⟨d, hd⟩ : ∃ d, N - k = d + 1 := ⟨N - k - 1, by omega⟩
  rw [hd]
  show (if f k = 0 then nI k else ahS f d (k + 1)) = _
  rw [if_pos h]
theorem x_both {E : String} {k : Int32} (h : (E = eIO ∧ k = 1) ∨ (E = eIA ∧ k = 2)) (h0 : k = 0) : False := by
  rcases h with h | h
  · exact absurd (h0.symm.trans h.2) (by decide)
  · exact absurd (h0.symm.trans h.2) (by decide)
theorem x_one {E F : String} {k : Int32} (h : E = F ∧ k = 1) (h0 : k = 0) : False := absurd (h0.symm.trans h.2) (by decide)
-- digests
def dg (s : Int64) (x : Int32) : Int64 := s * 31 + Int32.toInt64 x
def dgN (f : Nat → Int32) (s : Int64) : Nat → Int64
  | 0 => s
  | k + 1 => dg (dgN f s k) (f k)
def dgM (F : Nat → Nat → Int32) (n : Nat) (s : Int64) : Nat → Int64
  | 0 => s
  | k + 1 => dgN (F k) (dgM F n s k) n
def dgP (F : Nat → Nat → Nat → Int32) (n m : Nat) (s : Int64) : Nat → Int64
  | 0 => s
  | k + 1 => dgM (F k) n (dgP F n m s k) m
theorem ix_nI {a N : Nat} (h : a < N) (hN : N < 2 ^ 31) : ix_k (nI a) (nI N) = 0 := ix_iff.mpr ⟨nI_pos (by omega), nI_lt h hN⟩
theorem fr_nI {a N : Nat} (h : a ≤ N) (hN : N < 2 ^ 31) : fr_k 0 (nI N) (nI a) = 0 := fr_iff.mpr ⟨nI_pos (by omega), nI_nlt h hN⟩
theorem k_ofv_0 {a b : Nat} (ha : a < 4) (hb : b < 10) : k_ofv (nI a) (nI b) = 0 := by
  unfold k_ofv
  rw [if_pos (show ix_k (nI a) 4 = 0 from ix_nI (N := 4) ha (by decide)), if_pos (show fr_k 0 9 (nI b) = 0 from fr_nI (N := 9) (by omega) (by decide))]
theorem k_ofs_0 {a b c : Nat} (ha : a < 3) (hb : b < 8) (hc : c < 3) : k_ofs (nI a) (nI b) (nI c) = 0 := by
  unfold k_ofs
  rw [if_pos (show ix_k (nI a) 3 = 0 from ix_nI (N := 3) ha (by decide)), if_pos (show ix_k (nI b) 8 = 0 from ix_nI (N := 8) hb (by decide)), if_pos (show fr_k 0 2 (nI c) = 0 from fr_nI (N := 2) (by omega) (by decide))]
theorem k_heard_0 {b : Nat} (hb : b < 64) : k_heard (nI b) = 0 := by
  unfold k_heard
  rw [if_pos (show fr_k 0 63 (nI b) = 0 from fr_nI (N := 63) (by omega) (by decide))]
theorem k_ind_0 {a N : Nat} (h : a < N) (hN : N < 2 ^ 31) : k_ind (nI N) (nI a) = 0 := by
  unfold k_ind
  rw [if_pos (ix_nI h hN)]
def p_as (tw : Nat → Nat → Nat → Int32) (t s : Nat) : Nat → Int32 := upd (upd (upd (fun _ => 0) 0 (p_ts tw t s 0)) 1 (p_ts tw t s 1)) 2 (p_ts tw t s 2)
def p_a8 (mi en : Nat → Int32) (vf : Nat → Nat → Int32) : Nat → Int32 := upd (upd (upd (upd (upd (upd (upd (upd (fun _ => 0) 0 (mi 7)) 1 (mi 8)) 2 (mi 9)) 3 (v_snd vf)) 4 (en 3)) 5 (mk_c (en 4))) 6 (p_step en)) 7 (nI (v_nx vf))
def p_dl (mi en rw : Nat → Int32) (k : Nat) : Int32 := rw (prm (en 0 + nI k) (mi 3)).toNatClampNeg
def p_dig (mi hd en rw : Nat → Int32) (vf : Nat → Nat → Int32) (tw : Nat → Nat → Nat → Int32) : Int64 := dgN (p_dl mi en rw) (dgP (p_as tw) 3 8 (dgM (fun k => p_tv (vf k)) 10 (dgN (p_a8 mi en vf) (dgN hd (dg 58051 (en 1)) 8) 8) 4) 3) (mi 3).toNatClampNeg
-- the fields of a new object
theorem dfX1 : ∀ j, j < 17 → defaultValue (tyX1 j) = vp_V [.null, .null, .null, .int 0, .int 0, .int 0, .int 0, .int 0, .int 0, .null, .null, .int 0, .int 0, .long 0, .int 0, .int 0, .long 0] j := fun j hj => by rcases (show j = 0 ∨ j = 1 ∨ j = 2 ∨ j = 3 ∨ j = 4 ∨ j = 5 ∨ j = 6 ∨ j = 7 ∨ j = 8 ∨ j = 9 ∨ j = 10 ∨ j = 11 ∨ j = 12 ∨ j = 13 ∨ j = 14 ∨ j = 15 ∨ j = 16 by omega) with rfl | rfl | rfl | rfl | rfl | rfl | rfl | rfl | rfl | rfl | rfl | rfl | rfl | rfl | rfl | rfl | rfl <;> rfl
theorem dfX2 : ∀ j, j < 12 → defaultValue (tyX2 j) = vp_V [.null, .null, .int 0, .int 0, .int 0, .int 0, .int 0, .int 0, .int 0, .int 0, .int 0, .null] j := fun j hj => by rcases (show j = 0 ∨ j = 1 ∨ j = 2 ∨ j = 3 ∨ j = 4 ∨ j = 5 ∨ j = 6 ∨ j = 7 ∨ j = 8 ∨ j = 9 ∨ j = 10 ∨ j = 11 by omega) with rfl | rfl | rfl | rfl | rfl | rfl | rfl | rfl | rfl | rfl | rfl | rfl <;> rfl
theorem dfX3 : ∀ j, j < 12 → defaultValue (tyX3 j) = vp_V [.int 0, .int 0, .int 0, .int 0, .int 0, .int 0, .int 0, .int 0, .int 0, .int 0, .int 0, .int 0] j := fun j hj => by rcases (show j = 0 ∨ j = 1 ∨ j = 2 ∨ j = 3 ∨ j = 4 ∨ j = 5 ∨ j = 6 ∨ j = 7 ∨ j = 8 ∨ j = 9 ∨ j = 10 ∨ j = 11 by omega) with rfl | rfl | rfl | rfl | rfl | rfl | rfl | rfl | rfl | rfl | rfl | rfl <;> rfl
theorem dfX4 : ∀ j, j < 4 → defaultValue (tyX4 j) = vp_V [.int 0, .null, .null, .null] j := fun j hj => by rcases (show j = 0 ∨ j = 1 ∨ j = 2 ∨ j = 3 by omega) with rfl | rfl | rfl | rfl <;> rfl
theorem dfX5 : ∀ j, j < 11 → defaultValue (tyX5 j) = vp_V [.int 0, .int 0, .int 0, .int 0, .int 0, .int 0, .int 0, .int 0, .int 0, .int 0, .int 0] j := fun j hj => by rcases (show j = 0 ∨ j = 1 ∨ j = 2 ∨ j = 3 ∨ j = 4 ∨ j = 5 ∨ j = 6 ∨ j = 7 ∨ j = 8 ∨ j = 9 ∨ j = 10 by omega) with rfl | rfl | rfl | rfl | rfl | rfl | rfl | rfl | rfl | rfl | rfl <;> rfl
theorem dfX6 : ∀ j, j < 2 → defaultValue (tyX6 j) = vp_V [.int 0, .null] j := fun j hj => by rcases (show j = 0 ∨ j = 1 by omega) with rfl | rfl <;> rfl
theorem dfX7 : ∀ j, j < 35 → defaultValue (tyX7 j) = vp_V [.null, .null, .null, .null, .null, .null, .null, .null, .null, .null, .null, .null, .null, .int 0, .int 0, .int 0, .int 0, .int 0, .int 0, .null, .null, .null, .int 0, .int 0, .int 0, .int 0, .int 0, .int 0, .int 0, .null, .int 0, .int 0, .int 0, .int 0, .long 0] j := fun j hj => by rcases (show j = 0 ∨ j = 1 ∨ j = 2 ∨ j = 3 ∨ j = 4 ∨ j = 5 ∨ j = 6 ∨ j = 7 ∨ j = 8 ∨ j = 9 ∨ j = 10 ∨ j = 11 ∨ j = 12 ∨ j = 13 ∨ j = 14 ∨ j = 15 ∨ j = 16 ∨ j = 17 ∨ j = 18 ∨ j = 19 ∨ j = 20 ∨ j = 21 ∨ j = 22 ∨ j = 23 ∨ j = 24 ∨ j = 25 ∨ j = 26 ∨ j = 27 ∨ j = 28 ∨ j = 29 ∨ j = 30 ∨ j = 31 ∨ j = 32 ∨ j = 33 ∨ j = 34 by omega) with rfl | rfl | rfl | rfl | rfl | rfl | rfl | rfl | rfl | rfl | rfl | rfl | rfl | rfl | rfl | rfl | rfl | rfl | rfl | rfl | rfl | rfl | rfl | rfl | rfl | rfl | rfl | rfl | rfl | rfl | rfl | rfl | rfl | rfl | rfl <;> rfl
theorem dfJ2 : ∀ j, j < 3 → defaultValue (tyJ2 j) = vp_V [.int 0, .null, .int 0] j := fun j hj => by rcases (show j = 0 ∨ j = 1 ∨ j = 2 by omega) with rfl | rfl | rfl <;> rfl
theorem mkN_0 {dr : Nat → Int32} {ig tr : Nat → Nat → Int32} {tw : Nat → Nat → Nat → Int32} {S : rS} : mkN dr ig tr tw S 0 = S := rfl
theorem mkN_s {dr : Nat → Int32} {ig tr : Nat → Nat → Int32} {tw : Nat → Nat → Nat → Int32} {S : rS} (n : Nat) : mkN dr ig tr tw S (n + 1) = mk1 dr ig tr tw (mkN dr ig tr tw S n) := rfl
theorem ahN_0 {dr : Nat → Int32} {ig : Nat → Nat → Int32} {mi : Nat → Int32} {tr : Nat → Nat → Int32} {tw : Nat → Nat → Nat → Int32} {S : aS} : ahN dr ig mi tr tw S 0 = S := rfl
theorem ahN_s {dr : Nat → Int32} {ig : Nat → Nat → Int32} {mi : Nat → Int32} {tr : Nat → Nat → Int32} {tw : Nat → Nat → Nat → Int32} {S : aS} (n : Nat) : ahN dr ig mi tr tw S (n + 1) = ah1 dr ig mi tr tw (ahN dr ig mi tr tw S n) := rfl
theorem ahP_s {dr : Nat → Int32} {ig : Nat → Nat → Int32} {mi : Nat → Int32} {tr : Nat → Nat → Int32} {tw : Nat → Nat → Nat → Int32} {S : aS} (n : Nat) : ahP dr ig mi tr tw S (n + 1) = pmx (ahP dr ig mi tr tw S n) (pab (ahR dr ig mi tr tw (ahN dr ig mi tr tw S n))) := rfl
theorem dgN_0 (f : Nat → Int32) (s : Int64) : dgN f s 0 = s := rfl
theorem dgN_s (f : Nat → Int32) (s : Int64) (k : Nat) : dgN f s (k + 1) = dg (dgN f s k) (f k) := rfl
theorem dgM_0 (F : Nat → Nat → Int32) (n : Nat) (s : Int64) : dgM F n s 0 = s := rfl
theorem dgM_s (F : Nat → Nat → Int32) (n : Nat) (s : Int64) (k : Nat) : dgM F n s (k + 1) = dgN (F k) (dgM F n s k) n := rfl
theorem dgP_0 (F : Nat → Nat → Nat → Int32) (n m : Nat) (s : Int64) : dgP F n m s 0 = s := rfl
theorem dgP_s (F : Nat → Nat → Nat → Int32) (n m : Nat) (s : Int64) (k : Nat) : dgP F n m s (k + 1) = dgM (F k) n (dgP F n m s k) m := rfl
theorem c3_0 : (0 : Int32).toNatClampNeg = 0 := rfl
theorem c3_1 : (1 : Int32).toNatClampNeg = 1 := rfl
theorem c3_2 : (2 : Int32).toNatClampNeg = 2 := rfl
