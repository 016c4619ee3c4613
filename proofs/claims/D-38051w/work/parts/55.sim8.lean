/-! PURE: the class and the reference, one beside the other: copies that go on alone, digests, the beginning -/
set_option maxRecDepth 100000
theorem cp_at {da : Nat → Nat → Int32} {k i : Nat} (h : i < dn k) : d_cp da k i = da k i := by
  show va_cpy (da k) (d0 k) 0 0 (dn k) i = _
  rw [pk_cpy_in (by omega) (by omega)]
  exact congrArg (da k) (by omega)
theorem rcp_at {rw : Nat → Int32} {i : Nat} (h : i < 200) : rcp rw i = rw i := by
  unfold rcp
  rw [pk_cpy_in (by omega) (by omega)]
  exact congrArg rw (by omega)
theorem Sim_cp {N : Nat} {mi dr : Nat → Int32} {ig tr : Nat → Nat → Int32} {tw : Nat → Nat → Nat → Int32} {en : Nat → Int32} {vf : Nat → Nat → Int32} {rw : Nat → Int32} {da : Nat → Nat → Int32} {di : Nat → Int32} (h : SimE N mi dr ig tr tw en vf rw da di) : SimE N mi dr ig tr tw (e_cp en) vf (rcp rw) (d_cp da) (d_ci di) := by
  obtain ⟨⟨hdr, hig, hV, hdl⟩, ⟨ht, hw⟩, ⟨d0, d1, d2, d3, d4, d5, d6, d7, d8, d9, d10, d11, d12⟩, ⟨hI, hE, hT⟩, ⟨⟨hm0, hm1⟩, hg, hb⟩⟩ := h
  refine ⟨⟨fun i hi => (cp_at (k := 1) hi).trans (hdr i hi), fun k hk j hj => (cp_at (k := 2) (show 12 * k + j < 48 by omega)).trans (hig k hk j hj), fun v hv => ?_, fun i hi => ?_⟩, ⟨fun t h => (cp_at (k := 15) h).trans (ht t h), fun t h1 s h2 w h3 => (cp_at (k := 16) (show (t * 8 + s) * 3 + w < 72 by omega)).trans (hw t h1 s h2 w h3)⟩, ⟨d0, d1, d2, d3, d4, d5, d6, d7, d8, d9, d10, d11, d12⟩, ⟨hI, hE, hT⟩, ⟨⟨hm0, hm1⟩, hg, hb⟩⟩
  · exact VR_of (hV v hv) (cp_at (k := 3) hv) (cp_at (k := 4) hv) (cp_at (k := 5) hv) (cp_at (k := 6) hv) (cp_at (k := 7) hv) (cp_at (k := 8) hv) (cp_at (k := 9) hv) (cp_at (k := 10) hv) (cp_at (k := 11) hv) (cp_at (k := 12) hv) (cp_at (k := 13) hv)
  · obtain ⟨L, hL, hL2, e⟩ := rg_nI hE.2.2.2.1
    have hi2 := hi
    rw [e, nI_clamp hL2] at hi2
    rw [cp_at (k := 14) (show i < 200 by omega), hdl i hi]
    have q : ¬ mi 3 ≤ 0 := by rw [e]; exact nI_nle (by omega) hL2
    have z := hE.2.2.2.2.1 q
    rw [e, nI_clamp hL2] at z
    obtain ⟨p, hp, e2⟩ := vp_in_of z hL2
    rw [p_dl_eq e e2 (by omega) hp hi2, p_dl_eq (en := e_cp en) e e2 (by omega) hp hi2]
    exact (rcp_at (by have := Nat.mod_lt (p + i) (show 0 < L by omega); omega)).symm
abbrev AR (N : Nat) (mi dr : Nat → Int32) (ig tr : Nat → Nat → Int32) (tw : Nat → Nat → Nat → Int32) (S : aS) (D : tS) : Prop := SimE N mi dr ig tr tw S.1 S.2.1 S.2.2 D.1 D.2.1
theorem A_1 {N : Nat} {mi dr : Nat → Int32} {ig tr : Nat → Nat → Int32} {tw : Nat → Nat → Nat → Int32} {S : aS} {D : tS} (h : AR N mi dr ig tr tw S D) (hN : 4 * N + 8 < 2 ^ 31) : dP D.1 D.2.1 ∧ ahR dr ig mi tr tw S = d_smR D.1 D.2.1 ∧ AR (N + 1) mi dr ig tr tw (ah1 dr ig mi tr tw S) (dm1 D) := by
  obtain ⟨en, vf, rw⟩ := S
  obtain ⟨da, di, sm⟩ := D
  obtain ⟨hP, eR, hS2, -⟩ := sim_smp h hN
  exact ⟨hP, eR.symm, hS2⟩
theorem A_N {N : Nat} {mi dr : Nat → Int32} {ig tr : Nat → Nat → Int32} {tw : Nat → Nat → Nat → Int32} {S : aS} {D : tS} (h : AR N mi dr ig tr tw S D) : ∀ n : Nat, 4 * (N + n) + 8 < 2 ^ 31 → AR (N + n) mi dr ig tr tw (ahN dr ig mi tr tw S n) (dmN D n)
  | 0, _ => h
  | n + 1, hn => (A_1 (A_N h n (by omega)) (by omega)).2.2
theorem A_P {N : Nat} {mi dr : Nat → Int32} {ig tr : Nat → Nat → Int32} {tw : Nat → Nat → Nat → Int32} {S : aS} {D : tS} (h : AR N mi dr ig tr tw S D) : ∀ n : Nat, 4 * (N + n) + 8 < 2 ^ 31 → ahP dr ig mi tr tw S n = dmP D n
  | 0, _ => rfl
  | n + 1, hn => by rw [ahP_s, dmP_s, A_P h n (by omega), (A_1 (A_N h n (by omega)) (by omega)).2.1]
theorem ahS_c {f g : Nat → Int32} : ∀ d k : Nat, (∀ i, k ≤ i → i < k + d → f i = g i) → ahS f d k = ahS g d k
  | 0, _, _ => rfl
  | d + 1, k, h => by
    show (if f k = 0 then nI k else ahS f d (k + 1)) = if g k = 0 then nI k else ahS g d (k + 1)
    rw [h k (Nat.le_refl k) (by omega), ahS_c d (k + 1) (fun i a b => h i (by omega) (by omega))]
theorem S_cp {N : Nat} {mi : Nat → Int32} {lo : Int64} {dr hd : Nat → Int32} {ig tr : Nat → Nat → Int32} {tw : Nat → Nat → Nat → Int32} {en : Nat → Int32} {vf : Nat → Nat → Int32} {rw : Nat → Int32} {da : Nat → Nat → Int32} {di : Nat → Int32} {sm : Int64} (h : Sim N mi lo dr hd ig tr tw en vf rw da di sm) : AR N mi dr ig tr tw (e_cp en, vf, rcp rw) (d_cp da, d_ci di, (0 : Int64)) := Sim_cp h.1
theorem S_aD {N : Nat} {mi : Nat → Int32} {lo : Int64} {dr hd : Nat → Int32} {ig tr : Nat → Nat → Int32} {tw : Nat → Nat → Nat → Int32} {en : Nat → Int32} {vf : Nat → Nat → Int32} {rw : Nat → Int32} {da : Nat → Nat → Int32} {di : Nat → Int32} {sm : Int64} (h : Sim N mi lo dr hd ig tr tw en vf rw da di sm) (hN : 4 * (N + 200) + 8 < 2 ^ 31) : ∀ k, k < 200 → dP (dmN (d_cp da, d_ci di, (0 : Int64)) k).1 (dmN (d_cp da, d_ci di, (0 : Int64)) k).2.1 := fun k hk => (A_1 (A_N (S_cp h) k (by omega)) (by omega)).1
theorem run_le {n : Int32} (hk : k_run n = 0) : n.toNatClampNeg ≤ 200 := by
  unfold k_run at hk
  obtain ⟨k, hk1, hk2, rfl⟩ := fr_nat (sel1 one_n hk)
  rw [nI_clamp (by omega)]
  exact hk2
theorem S_peak {N : Nat} {mi : Nat → Int32} {lo : Int64} {dr hd : Nat → Int32} {ig tr : Nat → Nat → Int32} {tw : Nat → Nat → Nat → Int32} {en : Nat → Int32} {vf : Nat → Nat → Int32} {rw : Nat → Int32} {da : Nat → Nat → Int32} {di : Nat → Int32} {sm : Int64} (h : Sim N mi lo dr hd ig tr tw en vf rw da di sm) (hN : 4 * (N + 200) + 8 < 2 ^ 31) {n : Int32} (hk : k_run n = 0) : ahP dr ig mi tr tw (e_cp en, vf, rcp rw) n.toNatClampNeg = dmP (d_cp da, d_ci di, (0 : Int64)) n.toNatClampNeg := by
  have := run_le hk
  exact A_P (S_cp h) _ (by omega)
theorem S_silent {N : Nat} {mi : Nat → Int32} {lo : Int64} {dr hd : Nat → Int32} {ig tr : Nat → Nat → Int32} {tw : Nat → Nat → Nat → Int32} {en : Nat → Int32} {vf : Nat → Nat → Int32} {rw : Nat → Int32} {da : Nat → Nat → Int32} {di : Nat → Int32} {sm : Int64} (h : Sim N mi lo dr hd ig tr tw en vf rw da di sm) (hN : 4 * (N + 200) + 8 < 2 ^ 31) {n : Int32} (hk : k_run n = 0) : ahS (fun k => v_snd (ahN dr ig mi tr tw (e_cp en, vf, rcp rw) k).2.1) (n.toNatClampNeg + 1) 0 = ahS (fun k => d_snd ((dmN (d_cp da, d_ci di, (0 : Int64)) k).1 3)) (n.toNatClampNeg + 1) 0 := by
  have hn := run_le hk
  exact ahS_c _ _ (fun i _ hi => S_snd (A_N (S_cp h) i (by omega)).1.2.2.1)
theorem S_eOK {N : Nat} {mi : Nat → Int32} {lo : Int64} {dr hd : Nat → Int32} {ig tr : Nat → Nat → Int32} {tw : Nat → Nat → Nat → Int32} {en : Nat → Int32} {vf : Nat → Nat → Int32} {rw : Nat → Int32} {da : Nat → Nat → Int32} {di : Nat → Int32} {sm : Int64} (h : Sim N mi lo dr hd ig tr tw en vf rw da di sm) : eOK N mi en vf := h.1.2.2.2.1.2.1
theorem S_iok {N : Nat} {mi : Nat → Int32} {lo : Int64} {dr hd : Nat → Int32} {ig tr : Nat → Nat → Int32} {tw : Nat → Nat → Nat → Int32} {en : Nat → Int32} {vf : Nat → Nat → Int32} {rw : Nat → Int32} {da : Nat → Nat → Int32} {di : Nat → Int32} {sm : Int64} (h : Sim N mi lo dr hd ig tr tw en vf rw da di sm) : ∀ k, k < 4 → IOK (ig k) := h.1.2.2.2.1.1
theorem S_tok {N : Nat} {mi : Nat → Int32} {lo : Int64} {dr hd : Nat → Int32} {ig tr : Nat → Nat → Int32} {tw : Nat → Nat → Nat → Int32} {en : Nat → Int32} {vf : Nat → Nat → Int32} {rw : Nat → Int32} {da : Nat → Nat → Int32} {di : Nat → Int32} {sm : Int64} (h : Sim N mi lo dr hd ig tr tw en vf rw da di sm) : TOK tr tw := h.1.2.2.2.1.2.2
theorem S_b4 {N : Nat} {mi : Nat → Int32} {lo : Int64} {dr hd : Nat → Int32} {ig tr : Nat → Nat → Int32} {tw : Nat → Nat → Nat → Int32} {en : Nat → Int32} {vf : Nat → Nat → Int32} {rw : Nat → Int32} {da : Nat → Nat → Int32} {di : Nat → Int32} {sm : Int64} (h : Sim N mi lo dr hd ig tr tw en vf rw da di sm) : en 4 = 0 ∨ en 4 = 1 := (S_eOK h).2.2.2.2.2
theorem S_b8 {N : Nat} {mi : Nat → Int32} {lo : Int64} {dr hd : Nat → Int32} {ig tr : Nat → Nat → Int32} {tw : Nat → Nat → Nat → Int32} {en : Nat → Int32} {vf : Nat → Nat → Int32} {rw : Nat → Int32} {da : Nat → Nat → Int32} {di : Nat → Int32} {sm : Int64} (h : Sim N mi lo dr hd ig tr tw en vf rw da di sm) : di 8 = 0 ∨ di 8 = 1 := by
  have q := S_b4 h
  have e : di 8 = en 4 := h.1.2.2.1.2.2.2.2.2.2.2.2.1
  rw [e]
  exact q
theorem S_e8 {N : Nat} {mi : Nat → Int32} {lo : Int64} {dr hd : Nat → Int32} {ig tr : Nat → Nat → Int32} {tw : Nat → Nat → Nat → Int32} {en : Nat → Int32} {vf : Nat → Nat → Int32} {rw : Nat → Int32} {da : Nat → Nat → Int32} {di : Nat → Int32} {sm : Int64} (h : Sim N mi lo dr hd ig tr tw en vf rw da di sm) : di 8 = en 4 := h.1.2.2.1.2.2.2.2.2.2.2.2.1
theorem S_e3 {N : Nat} {mi : Nat → Int32} {lo : Int64} {dr hd : Nat → Int32} {ig tr : Nat → Nat → Int32} {tw : Nat → Nat → Nat → Int32} {en : Nat → Int32} {vf : Nat → Nat → Int32} {rw : Nat → Int32} {da : Nat → Nat → Int32} {di : Nat → Int32} {sm : Int64} (h : Sim N mi lo dr hd ig tr tw en vf rw da di sm) : di 3 = mi 3 := h.1.2.2.1.2.2.2.1
theorem S_hl {N : Nat} {mi : Nat → Int32} {lo : Int64} {dr hd : Nat → Int32} {ig tr : Nat → Nat → Int32} {tw : Nat → Nat → Nat → Int32} {en : Nat → Int32} {vf : Nat → Nat → Int32} {rw : Nat → Int32} {da : Nat → Nat → Int32} {di : Nat → Int32} {sm : Int64} (h : Sim N mi lo dr hd ig tr tw en vf rw da di sm) : rg (mi 3) 0 200 := (S_eOK h).2.2.2.1
theorem S_hl2 {N : Nat} {mi : Nat → Int32} {lo : Int64} {dr hd : Nat → Int32} {ig tr : Nat → Nat → Int32} {tw : Nat → Nat → Nat → Int32} {en : Nat → Int32} {vf : Nat → Nat → Int32} {rw : Nat → Int32} {da : Nat → Nat → Int32} {di : Nat → Int32} {sm : Int64} (h : Sim N mi lo dr hd ig tr tw en vf rw da di sm) : rg (di 3) 0 200 := by
  rw [S_e3 h]
  exact S_hl h
theorem S_hh {N : Nat} {mi : Nat → Int32} {lo : Int64} {dr hd : Nat → Int32} {ig tr : Nat → Nat → Int32} {tw : Nat → Nat → Nat → Int32} {en : Nat → Int32} {vf : Nat → Nat → Int32} {rw : Nat → Int32} {da : Nat → Nat → Int32} {di : Nat → Int32} {sm : Int64} (h : Sim N mi lo dr hd ig tr tw en vf rw da di sm) : ¬ mi 3 ≤ 0 → vp_in (en 0) 200 := (S_eOK h).hh
theorem S_clock {N : Nat} {mi : Nat → Int32} {lo : Int64} {dr hd : Nat → Int32} {ig tr : Nat → Nat → Int32} {tw : Nat → Nat → Nat → Int32} {en : Nat → Int32} {vf : Nat → Nat → Int32} {rw : Nat → Int32} {da : Nat → Nat → Int32} {di : Nat → Int32} {sm : Int64} (h : Sim N mi lo dr hd ig tr tw en vf rw da di sm) : en 1 = di 12 := h.1.2.2.1.2.2.2.2.2.2.2.2.2.2.2.2.symm
theorem S_taken {N : Nat} {mi : Nat → Int32} {lo : Int64} {dr hd : Nat → Int32} {ig tr : Nat → Nat → Int32} {tw : Nat → Nat → Nat → Int32} {en : Nat → Int32} {vf : Nat → Nat → Int32} {rw : Nat → Int32} {da : Nat → Nat → Int32} {di : Nat → Int32} {sm : Int64} (h : Sim N mi lo dr hd ig tr tw en vf rw da di sm) : en 3 = di 1 := h.1.2.2.1.2.1.symm
theorem S_peak7 {N : Nat} {mi : Nat → Int32} {lo : Int64} {dr hd : Nat → Int32} {ig tr : Nat → Nat → Int32} {tw : Nat → Nat → Nat → Int32} {en : Nat → Int32} {vf : Nat → Nat → Int32} {rw : Nat → Int32} {da : Nat → Nat → Int32} {di : Nat → Int32} {sm : Int64} (h : Sim N mi lo dr hd ig tr tw en vf rw da di sm) : mi 7 = di 14 := h.2.2.1.2.1.symm
theorem S_clip {N : Nat} {mi : Nat → Int32} {lo : Int64} {dr hd : Nat → Int32} {ig tr : Nat → Nat → Int32} {tw : Nat → Nat → Nat → Int32} {en : Nat → Int32} {vf : Nat → Nat → Int32} {rw : Nat → Int32} {da : Nat → Nat → Int32} {di : Nat → Int32} {sm : Int64} (h : Sim N mi lo dr hd ig tr tw en vf rw da di sm) : mi 8 = di 15 := h.2.2.1.2.2.1.symm
theorem S_cross {N : Nat} {mi : Nat → Int32} {lo : Int64} {dr hd : Nat → Int32} {ig tr : Nat → Nat → Int32} {tw : Nat → Nat → Nat → Int32} {en : Nat → Int32} {vf : Nat → Nat → Int32} {rw : Nat → Int32} {da : Nat → Nat → Int32} {di : Nat → Int32} {sm : Int64} (h : Sim N mi lo dr hd ig tr tw en vf rw da di sm) : mi 9 = di 16 := h.2.2.1.2.2.2.symm
theorem S_kind {N : Nat} {mi : Nat → Int32} {lo : Int64} {dr hd : Nat → Int32} {ig tr : Nat → Nat → Int32} {tw : Nat → Nat → Nat → Int32} {en : Nat → Int32} {vf : Nat → Nat → Int32} {rw : Nat → Int32} {da : Nat → Nat → Int32} {di : Nat → Int32} {sm : Int64} (h : Sim N mi lo dr hd ig tr tw en vf rw da di sm) (p : Int32) : d_ind (di 3) p = k_ind (mi 3) p := by
  rw [S_e3 h]
  exact kd_ind (S_hl h) p
-- digests
theorem dgN_c {f g : Nat → Int32} (s : Int64) : ∀ n : Nat, (∀ i, i < n → f i = g i) → dgN f s n = dgN g s n
  | 0, _ => rfl
  | n + 1, h => by
    rw [dgN_s, dgN_s, dgN_c s n (fun i hi => h i (by omega)), h n (by omega)]
theorem dgN_add (f : Nat → Int32) (s : Int64) (a : Nat) : ∀ b : Nat, dgN f s (a + b) = dgN (fun i => f (a + i)) (dgN f s a) b
  | 0 => rfl
  | b + 1 => by
    show dgN f s ((a + b) + 1) = _
    rw [dgN_s, dgN_s, dgN_add f s a b]
theorem dgM_c {F G : Nat → Nat → Int32} {n : Nat} (s : Int64) : ∀ m : Nat, (∀ i, i < m → ∀ j, j < n → F i j = G i j) → dgM F n s m = dgM G n s m
  | 0, _ => rfl
  | m + 1, h => by
    rw [dgM_s, dgM_s, dgM_c s m (fun i hi => h i (by omega))]
    exact dgN_c _ n (h m (by omega))
theorem dgM_f {F : Nat → Nat → Int32} {f : Nat → Int32} {n : Nat} (s : Int64) : ∀ m : Nat, (∀ i, i < m → ∀ j, j < n → F i j = f (i * n + j)) → dgM F n s m = dgN f s (m * n)
  | 0, _ => by
    rw [Nat.zero_mul]
    rfl
  | m + 1, h => by
    rw [dgM_s, dgM_f s m (fun i hi => h i (by omega)), Nat.succ_mul, dgN_add]
    exact dgN_c _ n (fun j hj => h m (by omega) j hj)
theorem dgP_f {F : Nat → Nat → Nat → Int32} {f : Nat → Int32} {n m : Nat} (s : Int64) : ∀ k : Nat, (∀ t, t < k → ∀ i, i < m → ∀ j, j < n → F t i j = f (t * (m * n) + (i * n + j))) → dgP F n m s k = dgN f s (k * (m * n))
  | 0, _ => by
    rw [Nat.zero_mul]
    rfl
  | k + 1, h => by
    rw [dgP_s, dgP_f s k (fun t ht => h t (by omega)), Nat.succ_mul, dgN_add]
    exact dgM_f (f := fun i => f (k * (m * n) + i)) _ m (fun i hi j hj => h k (by omega) i hi j hj)
theorem p_as_eq {tw : Nat → Nat → Nat → Int32} {t s w : Nat} (hw : w < 3) : p_as tw t s w = tw t w s := by
  rcases (show w = 0 ∨ w = 1 ∨ w = 2 by omega) with rfl | rfl | rfl
  · rfl
  · rfl
  · rfl
theorem S_dig {N : Nat} {mi : Nat → Int32} {lo : Int64} {dr hd : Nat → Int32} {ig tr : Nat → Nat → Int32} {tw : Nat → Nat → Nat → Int32} {en : Nat → Int32} {vf : Nat → Nat → Int32} {rw : Nat → Int32} {da : Nat → Nat → Int32} {di : Nat → Int32} {sm : Int64} (h : Sim N mi lo dr hd ig tr tw en vf rw da di sm) (hN : 4 * N + 8 < 2 ^ 31) : p_dig mi hd en rw vf tw = d_dig da di := by
  have hst := S_step h
  obtain ⟨⟨⟨hdr, hig, hV, hdl⟩, ⟨ht, hw⟩, ⟨d0, d1, d2, d3, d4, d5, d6, d7, d8, d9, d10, d11, d12⟩, ⟨hI, hE, hT⟩, ⟨⟨hm0, hm1⟩, hg, hb⟩⟩, hhd, ⟨c13, c14, c15, c16⟩, hlo⟩ := h
  have e3 : (mi 3).toNatClampNeg = (di 3).toNatClampNeg := by rw [d3]
  unfold p_dig d_dig
  rw [e3]
  have a1 : dgN hd (dg 58051 (en 1)) 8 = dgN (da 17) (1799581 + Int32.toInt64 (di 12)) 8 := by
    have z : dg 58051 (en 1) = 1799581 + Int32.toInt64 (di 12) := by
      rw [d12]
      rfl
    rw [z]
    exact dgN_c _ 8 (fun i hi => (hhd i (by omega)).symm)
  rw [a1]
  generalize dgN (da 17) (1799581 + Int32.toInt64 (di 12)) 8 = s1
  have a2 : dgN (p_a8 mi en vf) s1 8 = d_dl8 da di s1 := by
    have z : dgN (p_a8 mi en vf) s1 8 = dg (dg (dg (dg (dg (dg (dg (dg s1 (mi 7)) (mi 8)) (mi 9)) (v_snd vf)) (en 3)) (mk_c (en 4))) (p_step en)) (nI (v_nx vf)) := rfl
    rw [z]
    unfold d_dl8
    rw [c14, c15, c16, ← S_snd hV, d1, d8, ← hst, nx_eq hV (by omega)]
  rw [a2]
  generalize d_dl8 da di s1 = s2
  have a3 : dgM (fun k => p_tv (vf k)) 10 s2 4 = dgM (fun v w => d_tv da v (nI w)) 10 s2 4 := dgM_c s2 4 (fun i hi j hj => d_tv_eq (hV i hi) hj)
  rw [a3]
  generalize dgM (fun v w => d_tv da v (nI w)) 10 s2 4 = s3
  have a4 : dgP (p_as tw) 3 8 s3 3 = dgN (da 16) s3 72 := dgP_f (f := da 16) s3 3 (fun t h1 s h2 w h3 => by
    rw [p_as_eq h3, ← hw t h1 s h2 w h3]
    exact congrArg (da 16) (by omega))
  rw [a4]
  exact dgN_c _ _ (fun i hi => (hdl i (by rw [e3]; exact hi)).symm)
-- the beginning
def tw0 : Nat → Nat → Nat → Int32 := fun _ w => if w = 0 then tp0 else z0
theorem IOK_i0 : IOK i0 := by
  unfold IOK rg
  decide
theorem d0_2 : ∀ k, k < 4 → ∀ j, j < 12 → d0 2 (12 * k + j) = i0 j := by decide +kernel
theorem d0_16 : ∀ t, t < 3 → ∀ s, s < 8 → ∀ w, w < 3 → d0 16 ((t * 8 + s) * 3 + w) = tw0 t w s := by decide +kernel
theorem tw0_0 : ∀ t, t < 3 → ∀ s, s < 8 → tw0 t 0 s = -1 := by decide +kernel
theorem d0_12 : ∀ v, v < 4 → d0 12 v = -1 := by decide +kernel
theorem S_init : Sim 0 mi0 0 z0 z0 (fun _ => i0) (fun _ => z0) tw0 z0 (fun _ => v0) z0 d0 di0 0 := by
  have hE : eOK 0 mi0 z0 (fun _ => v0) := ⟨fun k hk => ⟨vpc rfl, vpc rfl, vpc rfl, vpc rfl⟩, vpc rfl, ⟨by decide, by decide⟩, ⟨by decide, by decide⟩, fun q => absurd (by decide) q, Or.inl rfl⟩
  have hT : TOK (fun _ => z0) tw0 := fun t ht => ⟨vpc rfl, fun s hs => Or.inl (tw0_0 t ht s hs)⟩
  refine ⟨⟨⟨fun i hi => rfl, d0_2, fun v hv => ?_, fun i hi => ?_⟩, ⟨fun t ht => rfl, d0_16⟩, ⟨rfl, rfl, rfl, rfl, rfl, rfl, rfl, rfl, rfl, rfl, rfl, rfl, rfl⟩, ⟨fun k hk => IOK_i0, hE, hT⟩, ⟨⟨⟨by decide, by decide⟩, ⟨by decide, by decide⟩⟩, ⟨by decide, Or.inl (by decide)⟩, ⟨by decide, by decide⟩⟩⟩, fun i hi => rfl, ⟨rfl, rfl, rfl, rfl⟩, rfl⟩
  · exact ⟨rfl, rfl, rfl, rfl, rfl, rfl, rfl, rfl, rfl, d0_12 v hv, ⟨by decide, by decide⟩, fun q => absurd rfl q⟩
  · exact absurd hi (Nat.not_lt_zero i)
