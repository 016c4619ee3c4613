/-! PURE: the class and the reference, one beside the other: tracks, a sample -/
set_option maxRecDepth 100000
/-- what a track's step keeps: voices, counts -/
def TR (N : Nat) (S : eS) (D : dS) : Prop := (∀ v, v < 4 → VR N D.1 (S.1 v) v) ∧ D.2 0 = S.2 2 ∧ D.2 1 = S.2 3 ∧ rg (S.2 2) 0 N
theorem mk_c_0 : mk_c 0 = 0 := rfl
theorem mk_c_n {x : Int32} (h : ¬ x = 0) : mk_c x = 1 := if_neg h
theorem TR_1 {N : Nat} {tr : Nat → Nat → Int32} {tw : Nat → Nat → Nat → Int32} {s t : Nat} {S : eS} {D : dS} (h : TR N S D) (hN : N + 2 < 2 ^ 31) (w0 : D.1 16 ((t * 8 + s) * 3) = tw t 0 s) (w1 : D.1 16 ((t * 8 + s) * 3 + 1) = tw t 1 s) (w2 : D.1 16 ((t * 8 + s) * 3 + 2) = tw t 2 s) (ht : D.1 15 t = tr t 0) : TR (N + 1) (e_t1 tr tw s t S) (d_t1 s t D) := by
  obtain ⟨hV, h0, h1, hb⟩ := h
  unfold d_t1 e_t1
  rw [w0, w1, w2, ht]
  by_cases c : tw t 0 s = -1
  · rw [if_pos c, if_pos c]
    exact ⟨fun v hv => (hV v hv).mono (by omega), h0, h1, hb.1, by have := hb.2; omega⟩
  · rw [if_neg c, if_neg c]
    have hx := nx_eq hV (by omega)
    refine ⟨fun v hv => (VR_begin hV h0 hb (by omega) v hv).mono (by omega), ?_, ?_, ?_⟩
    · show D.2 0 + 1 = e_be S.1 S.2 2
      unfold e_be
      split
      · rw [pk_us, h0]
      · rw [pk_us, h0]
    · show d_bi D.1 D.2 1 = e_be S.1 S.2 3
      unfold d_bi e_be
      rw [upd_ne (by decide), pk_us, hx, h1, (hV _ (v_nx_lt S.1)).1]
      by_cases z : S.1 (v_nx S.1) 0 = 0
      · rw [if_pos z, z, mk_c_0, upd_ne (by decide), Int32.add_zero]
      · rw [if_neg z, mk_c_n z, upd_ne (by decide), pk_us]
    · have e2 : e_be S.1 S.2 2 = S.2 2 + 1 := by
        unfold e_be
        split
        · exact pk_us
        · exact pk_us
      show rg (e_be S.1 S.2 2) 0 _
      rw [e2]
      obtain ⟨j, hj, hj2, e⟩ := rg_nI hb
      rw [e, nI_1]
      unfold rg
      rw [nI_toInt (by omega)]
      omega
/-- a step's clock goes on, in both -/
theorem go_eq {E J : Nat → Int32} (h8 : ¬ E 4 = 0) (j8 : J 8 = E 4) (j9 : J 9 = E 5) (j10 : J 10 = E 6) (j11 : J 11 = E 7) (h0 : 0 ≤ (E 6).toInt) (hl : (E 6).toInt < (E 7).toInt) :
    d_go J 9 = e_go E 5 ∧ d_go J 10 = e_go E 6 ∧ d_go J 11 = e_go E 7 ∧ d_go J 8 = e_go E 4 ∧ 0 ≤ (e_go E 6).toInt ∧ ((e_go E 6).toInt = 0 ∨ (e_go E 6).toInt < (e_go E 7).toInt) := by
  have hx := Int32.toInt_lt (E 7)
  have e1 : (E 6 + 1).toInt = (E 6).toInt + 1 := by
    rw [Jvm.Kit.i32_add (by rw [show (1 : Int32).toInt = 1 by decide]; omega) (by rw [show (1 : Int32).toInt = 1 by decide]; omega), show (1 : Int32).toInt = 1 by decide]
  have hiff : E 7 ≤ E 6 + 1 ↔ E 6 + 1 = E 7 := by
    rw [Int32.le_iff_toInt_le, e1]
    constructor
    · intro q
      exact Int32.toInt_inj.mp (by rw [e1]; omega)
    · intro q
      rw [← q, e1]
      omega
  unfold d_go e_go
  rw [if_neg (by rw [j8]; exact h8), j10, j11]
  by_cases c : E 6 + 1 = E 7
  · rw [if_pos c, if_pos (hiff.mpr c), j9]
    have k6 : ∀ a b c d : Int32, upd (upd (upd E 6 a) 6 b) 5 c 6 = b := fun a b c d => by rw [upd_ne (by decide), pk_us]
    refine ⟨?_, ?_, ?_, ?_, ?_, Or.inl ?_⟩
    · rw [pk_us, pk_us]
    · rw [upd_ne (by decide), pk_us, upd_ne (by decide), pk_us]
    · rw [upd_ne (by decide), upd_ne (by decide), upd_ne (by decide), upd_ne (by decide), upd_ne (by decide), upd_ne (by decide), j11]
    · rw [upd_ne (by decide), upd_ne (by decide), upd_ne (by decide), upd_ne (by decide), upd_ne (by decide), upd_ne (by decide), j8]
    · rw [upd_ne (by decide), pk_us]; decide
    · rw [upd_ne (by decide), pk_us]; decide
  · have c2 : ¬ E 7 ≤ E 6 + 1 := fun q => c (hiff.mp q)
    rw [if_neg c, if_neg c2]
    have hlt : (E 6 + 1).toInt < (E 7).toInt := by
      rw [e1]
      rcases Int.lt_or_le ((E 6).toInt + 1) (E 7).toInt with q | q
      · exact q
      · exact absurd (by rw [Int32.le_iff_toInt_le, e1]; exact q) c2
    refine ⟨?_, ?_, ?_, ?_, ?_, Or.inr ?_⟩
    · rw [upd_ne (by decide), upd_ne (by decide), j9]
    · rw [pk_us, pk_us]
    · rw [upd_ne (by decide), upd_ne (by decide), j11]
    · rw [upd_ne (by decide), upd_ne (by decide), j8]
    · rw [pk_us, e1]; omega
    · rw [pk_us, upd_ne (by decide)]; exact hlt
/-- the engine and the desk; N bounds the clock -/
def SimE (N : Nat) (mi dr : Nat → Int32) (ig tr : Nat → Nat → Int32) (tw : Nat → Nat → Nat → Int32) (en : Nat → Int32) (vf : Nat → Nat → Int32) (rw : Nat → Int32) (da : Nat → Nat → Int32) (di : Nat → Int32) : Prop :=
  ((∀ i, i < 32 → da 1 i = dr i) ∧ (∀ k, k < 4 → ∀ j, j < 12 → da 2 (12 * k + j) = ig k j) ∧ (∀ v, v < 4 → VR (4 * N) da (vf v) v) ∧ (∀ i, i < (mi 3).toNatClampNeg → da 14 i = p_dl mi en rw i)) ∧
  ((∀ t, t < 3 → da 15 t = tr t 0) ∧ (∀ t, t < 3 → ∀ s, s < 8 → ∀ w, w < 3 → da 16 ((t * 8 + s) * 3 + w) = tw t w s)) ∧
  (di 0 = en 2 ∧ di 1 = en 3 ∧ di 2 = mi 2 ∧ di 3 = mi 3 ∧ di 4 = mi 4 ∧ di 5 = mi 5 ∧ di 6 = mi 0 ∧ di 7 = mi 1 ∧ di 8 = en 4 ∧ di 9 = en 5 ∧ di 10 = en 6 ∧ di 11 = en 7 ∧ di 12 = en 1) ∧
  ((∀ k, k < 4 → IOK (ig k)) ∧ eOK N mi en vf ∧ TOK tr tw) ∧ ((rg (mi 0) 1 200 ∧ rg (mi 1) 0 ((mi 0).toInt - 1)) ∧ (0 ≤ (en 6).toInt ∧ ((en 6).toInt = 0 ∨ (en 6).toInt < (en 7).toInt)) ∧ rg (en 2) 0 (4 * N))
theorem upd_0 {f : Nat → Int32} {i j : Nat} {x : Int32} (h : j ≠ i) : upd f i x j = f j := upd_ne h
theorem TR_tr {N : Nat} {mi dr : Nat → Int32} {ig tr : Nat → Nat → Int32} {tw : Nat → Nat → Nat → Int32} {en : Nat → Int32} {vf : Nat → Nat → Int32} {rw : Nat → Int32} {da : Nat → Nat → Int32} {di : Nat → Int32} (h : SimE N mi dr ig tr tw en vf rw da di) (hN : 4 * N + 8 < 2 ^ 31) :
    TR (4 * N + 3) (e_tr mi tr tw (vf, en)) (d_gt da di) ∧ (d_go (d_gt da di).2 9 = (e_tr mi tr tw (vf, en)).2 5 ∧ d_go (d_gt da di).2 10 = (e_tr mi tr tw (vf, en)).2 6 ∧ d_go (d_gt da di).2 11 = (e_tr mi tr tw (vf, en)).2 7) ∧ 0 ≤ ((e_tr mi tr tw (vf, en)).2 6).toInt ∧ (((e_tr mi tr tw (vf, en)).2 6).toInt = 0 ∨ ((e_tr mi tr tw (vf, en)).2 6).toInt < ((e_tr mi tr tw (vf, en)).2 7).toInt) := by
  obtain ⟨⟨-, -, hV, -⟩, ⟨ht, hw⟩, ⟨d0, d1, d2, d3, d4, d5, d6, d7, d8, d9, d10, d11, d12⟩, ⟨-, hE, -⟩, ⟨hm0, hm1⟩, ⟨hg0, hg1⟩, hb⟩ := h
  have hG : ∀ v, v < 4 → VR (4 * N) (d_g0 da) (v_gate (vf v)) v := fun v hv => VR_gate hv (hV v hv)
  have hbm : rg (en 2) 0 ((4 * N + 3 : Nat) : Int) := ⟨hb.1, by have := hb.2; omega⟩
  unfold d_gt e_tr
  rw [d8, d10]
  show (TR _ (if en 4 = 0 then _ else _) _) ∧ _
  by_cases c8 : en 4 = 0
  · have gd : d_go di = di := by
      unfold d_go
      rw [if_pos (by rw [d8]; exact c8)]
    simp only [if_pos c8]
    refine ⟨⟨fun v hv => (hG v hv).mono (by omega), d0, d1, hbm⟩, ⟨?_, ?_, ?_⟩, hg0, hg1⟩
    · rw [gd]; exact d9
    · rw [gd]; exact d10
    · rw [gd]; exact d11
  · simp only [if_neg c8]
    unfold e_t2
    by_cases c6 : en 6 = 0
    · have c10 : en 6 ≤ 0 := by rw [c6]; decide
      simp only [if_pos c6, if_pos c10]
      have hs : (di 9).toNatClampNeg = (en 5).toNatClampNeg := by rw [d9]
      have hs8 : (en 5).toNatClampNeg < 8 := in_lt hE.2.1
      rw [hs]
      generalize hst : (en 5).toNatClampNeg = st at hs8
      have esl : d_sl di = e_sl mi en := by
        unfold d_sl e_sl
        rw [d9, d6, d7]
      have T0 : TR (4 * N) (fun k => v_gate (vf k), upd en 7 (e_sl mi en)) (d_g0 da, upd di 11 (d_sl di)) := by
        refine ⟨hG, ?_, ?_, ?_⟩
        · show upd di 11 _ 0 = upd en 7 _ 2
          rw [upd_ne (by decide), upd_ne (by decide)]; exact d0
        · show upd di 11 _ 1 = upd en 7 _ 3
          rw [upd_ne (by decide), upd_ne (by decide)]; exact d1
        · show rg (upd en 7 _ 2) 0 _
          rw [upd_ne (by decide)]; exact hb
      have T1 := TR_1 (tr := tr) (tw := tw) (s := st) (t := 0) T0 (by omega) (hw 0 (by decide) st hs8 0 (by decide)) (hw 0 (by decide) st hs8 1 (by decide)) (hw 0 (by decide) st hs8 2 (by decide)) (ht 0 (by decide))
      have k16 : ∀ t (D : dS), (d_t1 st t D).1 16 = D.1 16 := fun t D => d_t1_o st t D (by decide)
      have k15 : ∀ t (D : dS), (d_t1 st t D).1 15 = D.1 15 := fun t D => d_t1_o st t D (by decide)
      have T2 := TR_1 (tr := tr) (tw := tw) (s := st) (t := 1) T1 (by omega) (by rw [k16]; exact hw 1 (by decide) st hs8 0 (by decide)) (by rw [k16]; exact hw 1 (by decide) st hs8 1 (by decide)) (by rw [k16]; exact hw 1 (by decide) st hs8 2 (by decide)) (by rw [k15]; exact ht 1 (by decide))
      have T3 := TR_1 (tr := tr) (tw := tw) (s := st) (t := 2) T2 (by omega) (by rw [k16, k16]; exact hw 2 (by decide) st hs8 0 (by decide)) (by rw [k16, k16]; exact hw 2 (by decide) st hs8 1 (by decide)) (by rw [k16, k16]; exact hw 2 (by decide) st hs8 2 (by decide)) (by rw [k15, k15]; exact ht 2 (by decide))
      have eB : e_bs mi tr tw (fun k => v_gate (vf k), en) = e_t1 tr tw st 2 (e_t1 tr tw st 1 (e_t1 tr tw st 0 (fun k => v_gate (vf k), upd en 7 (e_sl mi en)))) := by
        unfold e_bs
        show e_t1 tr tw (en 5).toNatClampNeg 2 _ = _
        rw [hst]
      have dB : d_bs st (d_g0 da, di) = d_t1 st 2 (d_t1 st 1 (d_t1 st 0 (d_g0 da, upd di 11 (d_sl di)))) := rfl
      rw [← eB, ← dB] at T3
      obtain ⟨t1, t2, t3, t4⟩ := T3
      have o : ∀ k, k ≠ 2 → k ≠ 3 → k ≠ 7 → (e_bs mi tr tw (fun k => v_gate (vf k), en)).2 k = en k := fun k a b c => e_bs_o a b c
      have o7 : (e_bs mi tr tw (fun k => v_gate (vf k), en)).2 7 = e_sl mi en := by
        rw [eB, e_t1_o (by decide) (by decide), e_t1_o (by decide) (by decide), e_t1_o (by decide) (by decide)]
        exact pk_us
      have q : ∀ k, k ≠ 0 → k ≠ 1 → k ≠ 11 → (d_bs st (d_g0 da, di)).2 k = di k := by
        intro k a b c
        rw [dB, d_t1_i _ _ _ a b, d_t1_i _ _ _ a b, d_t1_i _ _ _ a b]
        exact upd_ne c
      have q11 : (d_bs st (d_g0 da, di)).2 11 = e_sl mi en := by
        rw [dB, d_t1_i _ _ _ (by decide) (by decide), d_t1_i _ _ _ (by decide) (by decide), d_t1_i _ _ _ (by decide) (by decide)]
        exact pk_us.trans esl
      have hsl : 0 < (e_sl mi en).toInt := by
        have a1 := hm0.1
        have a2 := hm0.2
        have b1 := hm1.1
        have b2 := hm1.2
        unfold e_sl
        split
        · rw [Jvm.Kit.i32_add (by omega) (by omega)]; omega
        · rw [Jvm.Kit.i32_sub (by omega) (by omega)]; omega
      have z6 : (en 6).toInt = 0 := by rw [c6]; decide
      have G := go_eq (E := (e_bs mi tr tw (fun k => v_gate (vf k), en)).2) (J := (d_bs st (d_g0 da, di)).2) (by rw [o 4 (by decide) (by decide) (by decide)]; exact c8) (by rw [q 8 (by decide) (by decide) (by decide), o 4 (by decide) (by decide) (by decide)]; exact d8) (by rw [q 9 (by decide) (by decide) (by decide), o 5 (by decide) (by decide) (by decide)]; exact d9) (by rw [q 10 (by decide) (by decide) (by decide), o 6 (by decide) (by decide) (by decide)]; exact d10) (by rw [q11, o7]) (by rw [o 6 (by decide) (by decide) (by decide)]; omega) (by rw [o 6 (by decide) (by decide) (by decide), o7]; omega)
      have g2 : ∀ E : Nat → Int32, e_go E 2 = E 2 ∧ e_go E 3 = E 3 := by
        intro E
        unfold e_go
        split
        · exact ⟨by rw [upd_ne (by decide), upd_ne (by decide), upd_ne (by decide)], by rw [upd_ne (by decide), upd_ne (by decide), upd_ne (by decide)]⟩
        · exact ⟨upd_ne (by decide), upd_ne (by decide)⟩
      refine ⟨⟨t1, t2.trans (g2 _).1.symm, t3.trans (g2 _).2.symm, ?_⟩, ⟨G.1, G.2.1, G.2.2.1⟩, G.2.2.2.2.1, G.2.2.2.2.2⟩
      show rg (e_go _ 2) 0 _
      rw [(g2 _).1]
      exact t4
    · have c10 : ¬ en 6 ≤ 0 := by
        intro q
        rw [Int32.le_iff_toInt_le, show (0 : Int32).toInt = 0 by decide] at q
        exact c6 (Int32.toInt_inj.mp (by rw [show (0 : Int32).toInt = 0 by decide]; omega))
      simp only [if_neg c6, if_neg c10]
      have hlt : (en 6).toInt < (en 7).toInt := by
        rcases hg1 with q | q
        · exact absurd (Int32.toInt_inj.mp (by rw [show (0 : Int32).toInt = 0 by decide]; exact q)) c6
        · exact q
      have G := go_eq (E := en) (J := di) c8 d8 d9 d10 d11 hg0 hlt
      have g2 : e_go en 2 = en 2 ∧ e_go en 3 = en 3 := by
        unfold e_go
        split
        · exact ⟨by rw [upd_ne (by decide), upd_ne (by decide), upd_ne (by decide)], by rw [upd_ne (by decide), upd_ne (by decide), upd_ne (by decide)]⟩
        · exact ⟨upd_ne (by decide), upd_ne (by decide)⟩
      refine ⟨⟨fun v hv => (hG v hv).mono (by omega), d0.trans g2.1.symm, d1.trans g2.2.symm, ?_⟩, ⟨G.1, G.2.1, G.2.2.1⟩, G.2.2.2.2.1, G.2.2.2.2.2⟩
      show rg (e_go en 2) 0 _
      rw [g2.1]
      exact hbm
