/-! PURE: the class and the reference, one beside the other: what each method asks -/
set_option maxRecDepth 100000
theorem ix_in_z {i n m : Int32} (h : m.toInt + 1 = n.toInt) : ix_k i n = 0 ↔ ¬ in_z i 0 m = 0 := by
  rw [ix_iff, in_z_iff, Int32.lt_iff_toInt_lt (a := i) (b := n), Int32.lt_iff_toInt_lt (a := m) (b := i)]
  constructor
  · rintro ⟨a, b⟩
    exact ⟨a, by omega⟩
  · rintro ⟨a, b⟩
    exact ⟨a, by omega⟩
theorem fr_in_z {lo hi v : Int32} : fr_k lo hi v = 0 ↔ ¬ in_z v lo hi = 0 := by
  rw [fr_iff, in_z_iff]
theorem k_sel {c d : Prop} [Decidable c] [Decidable d] {α : Type} {a b : α} (h : c ↔ ¬ d) : (if c then a else b) = if d then b else a := by
  by_cases q : d
  · rw [if_pos q, if_neg (fun z => h.mp z q)]
  · rw [if_neg q, if_pos (h.mpr q)]
theorem ix4 (i : Int32) : ix_k i 4 = 0 ↔ ¬ in_z i 0 3 = 0 := ix_in_z (by decide)
theorem ix3 (i : Int32) : ix_k i 3 = 0 ↔ ¬ in_z i 0 2 = 0 := ix_in_z (by decide)
theorem ix8 (i : Int32) : ix_k i 8 = 0 ↔ ¬ in_z i 0 7 = 0 := ix_in_z (by decide)
theorem ix32 (i : Int32) : ix_k i 32 = 0 ↔ ¬ in_z i 0 31 = 0 := ix_in_z (by decide)
theorem kd_draw (p v : Int32) : d_draw p v = k_draw p v := by
  unfold k_draw d_draw
  rw [k_sel (ix32 p), k_sel (fr_in_z (lo := -1000) (hi := 1000) (v := v))]
theorem kd_wave (w ph : Int32) : d_wave w ph = k_wave w ph := by
  unfold k_wave d_wave
  rw [k_sel (ix4 w), k_sel (fr_in_z (lo := 0) (hi := 65535) (v := ph))]
theorem kd_stride (p : Int32) : d_stride p = k_stride p := by
  unfold k_stride d_stride
  rw [k_sel (fr_in_z (lo := 0) (hi := 47) (v := p))]
theorem kd_waves (i a b d m : Int32) : d_waves i a b d m = k_waves i a b d m := by
  unfold k_waves d_waves
  rw [k_sel (ix4 i), k_sel (ix4 a), k_sel (ix4 b), k_sel (fr_in_z (lo := -64) (hi := 64) (v := d)), k_sel (fr_in_z (lo := 0) (hi := 100) (v := m))]
theorem kd_env (i a d u r : Int32) : d_env i a d u r = k_env i a d u r := by
  unfold k_env d_env
  rw [k_sel (ix4 i), k_sel (fr_in_z (lo := 1) (hi := 400) (v := a)), k_sel (fr_in_z (lo := 1) (hi := 400) (v := d)), k_sel (fr_in_z (lo := 0) (hi := 1000) (v := u)), k_sel (fr_in_z (lo := 1) (hi := 400) (v := r))]
theorem kd_filter (i c d : Int32) : d_filter i c d = k_filter i c d := by
  unfold k_filter d_filter
  rw [k_sel (ix4 i), k_sel (fr_in_z (lo := 1) (hi := 128) (v := c)), k_sel (fr_in_z (lo := 16) (hi := 256) (v := d))]
theorem kd_vib (i d p : Int32) : d_vib i d p = k_vib i d p := by
  unfold k_vib d_vib
  rw [k_sel (ix4 i), k_sel (fr_in_z (lo := 0) (hi := 64) (v := d)), k_sel (fr_in_z (lo := 8) (hi := 255) (v := p))]
theorem kd_gain (v : Int32) : d_gain v = k_gain v := by
  unfold k_gain d_gain
  rw [k_sel (fr_in_z (lo := 0) (hi := 256) (v := v))]
theorem kd_delay (n w b : Int32) : d_delay n w b = k_delay n w b := by
  unfold k_delay d_delay
  rw [k_sel (fr_in_z (lo := 0) (hi := 200) (v := n)), k_sel (fr_in_z (lo := 0) (hi := 256) (v := w)), k_sel (fr_in_z (lo := 0) (hi := 256) (v := b))]
theorem kd_begin (i p f : Int32) : d_begin i p f = k_begin i p f := by
  unfold k_begin d_begin
  rw [k_sel (ix4 i), k_sel (fr_in_z (lo := 0) (hi := 47) (v := p)), k_sel (fr_in_z (lo := 1) (hi := 127) (v := f))]
theorem kd_end (v : Int32) : d_endk v = k_end v := by
  unfold k_end d_endk
  rw [k_sel (ix4 v)]
theorem kd_write (t j p f g : Int32) : d_write t j p f g = k_write t j p f g := by
  unfold k_write d_write
  rw [k_sel (ix3 t), k_sel (ix8 j), k_sel (fr_in_z (lo := -1) (hi := 47) (v := p)), k_sel (fr_in_z (lo := 1) (hi := 127) (v := f)), k_sel (fr_in_z (lo := 1) (hi := 200) (v := g))]
theorem kd_track (t i : Int32) : d_track t i = k_track t i := by
  unfold k_track d_track
  rw [k_sel (ix3 t), k_sel (ix4 i)]
theorem kd_tempo (t w : Int32) : d_tempo t w = k_tempo t w := by
  unfold k_tempo d_tempo
  rw [k_sel (fr_in_z (lo := 1) (hi := 200) (v := t)), k_sel (fr_in_z (lo := 0) (hi := t - 1) (v := w))]
theorem kd_play (j : Int32) : d_play j = k_play j := by
  unfold k_play d_play
  rw [k_sel (ix8 j)]
theorem kd_run (n : Int32) : d_run n = k_run n := by
  unfold k_run d_run
  rw [k_sel (fr_in_z (lo := 1) (hi := 200) (v := n))]
theorem kd_heard (b : Int32) : d_heard b = k_heard b := by
  unfold k_heard d_heard
  rw [k_sel (fr_in_z (lo := 0) (hi := 63) (v := b))]
theorem kd_ofv (v w : Int32) : d_ofv v w = k_ofv v w := by
  unfold k_ofv d_ofv
  rw [k_sel (ix4 v), k_sel (fr_in_z (lo := 0) (hi := 9) (v := w))]
theorem kd_ofs (t j w : Int32) : d_ofs t j w = k_ofs t j w := by
  unfold k_ofs d_ofs
  rw [k_sel (ix3 t), k_sel (ix8 j), k_sel (fr_in_z (lo := 0) (hi := 2) (v := w))]
theorem kd_ind {n : Int32} (h : rg n 0 200) (p : Int32) : d_ind n p = k_ind n p := by
  obtain ⟨k, hk, hk2, rfl⟩ := rg_nI h
  have e : (nI k - 1).toInt + 1 = (nI k).toInt := by
    rcases k with _ | k
    · decide
    · rw [show nI (k + 1) - 1 = nI k from pk_sub (a := k + 1) (b := 1) (by omega), nI_toInt (by omega), nI_toInt hk2]
      omega
  unfold k_ind d_ind
  rw [k_sel (ix_in_z (i := p) e)]
-- what they ask, in parts
theorem sel0 {c : Prop} [Decidable c] {a b : Int32} (hb : ¬ b = 0) (h : (if c then a else b) = 0) : c ∧ a = 0 := by
  by_cases q : c
  · rw [if_pos q] at h
    exact ⟨q, h⟩
  · rw [if_neg q] at h
    exact absurd h hb
theorem one_n : ¬ (1 : Int32) = 0 := by decide
theorem two_n : ¬ (2 : Int32) = 0 := by decide
theorem sel1 {c : Prop} [Decidable c] {b : Int32} (hb : ¬ b = 0) (h : (if c then (0 : Int32) else b) = 0) : c := (sel0 hb h).1
theorem fr_r {lo hi v : Int32} {a b : Int} (h : fr_k lo hi v = 0) (ha : lo.toInt = a) (hb : hi.toInt = b) : rg v a b := by
  have q := fr_rg h
  rw [ha, hb] at q
  exact q
/-- the class's state beside the reference's; N bounds the clock -/
def Sim (N : Nat) (mi : Nat → Int32) (lo : Int64) (dr hd : Nat → Int32) (ig tr : Nat → Nat → Int32) (tw : Nat → Nat → Nat → Int32) (en : Nat → Int32) (vf : Nat → Nat → Int32) (rw : Nat → Int32) (da : Nat → Nat → Int32) (di : Nat → Int32) (sm : Int64) : Prop :=
  SimE N mi dr ig tr tw en vf rw da di ∧ (∀ i, i < 64 → da 17 i = hd i) ∧ (di 13 = mi 6 ∧ di 14 = mi 7 ∧ di 15 = mi 8 ∧ di 16 = mi 9) ∧ sm = lo
theorem upd_at {f g : Nat → Int32} {n k : Nat} {x y : Int32} (h : ∀ i, i < n → f i = g i) (e : x = y) : ∀ i, i < n → upd f k x i = upd g k y i := by
  intro i hi
  by_cases q : i = k
  · subst q
    rw [pk_us, pk_us, e]
  · rw [upd_ne q, upd_ne q, h i hi]
theorem VR_of {N : Nat} {da dc : Nat → Nat → Int32} {f : Nat → Int32} {v : Nat} (h : VR N da f v) (e3 : dc 3 v = da 3 v) (e4 : dc 4 v = da 4 v) (e5 : dc 5 v = da 5 v) (e6 : dc 6 v = da 6 v) (e7 : dc 7 v = da 7 v) (e8 : dc 8 v = da 8 v) (e9 : dc 9 v = da 9 v) (e10 : dc 10 v = da 10 v) (e11 : dc 11 v = da 11 v) (e12 : dc 12 v = da 12 v) (e13 : dc 13 v = da 13 v) : VR N dc f v := by
  unfold VR
  rw [e3, e4, e5, e6, e7, e8, e9, e10, e11, e12, e13]
  exact h
-- what is only asked
theorem S_wave {N : Nat} {mi : Nat → Int32} {lo : Int64} {dr hd : Nat → Int32} {ig tr : Nat → Nat → Int32} {tw : Nat → Nat → Nat → Int32} {en : Nat → Int32} {vf : Nat → Nat → Int32} {rw : Nat → Int32} {da : Nat → Nat → Int32} {di : Nat → Int32} {sm : Int64} (h : Sim N mi lo dr hd ig tr tw en vf rw da di sm) {w ph : Int32} (hk : k_wave w ph = 0) : pwav dr w ph = pwav (da 1) w ph := by
  obtain ⟨⟨⟨hdr, hig, hV, hdl⟩, ⟨ht, hw⟩, ⟨d0, d1, d2, d3, d4, d5, d6, d7, d8, d9, d10, d11, d12⟩, ⟨hI, hE, hT⟩, ⟨⟨hm0, hm1⟩, hg, hb⟩⟩, hhd, ⟨c13, c14, c15, c16⟩, hlo⟩ := h
  unfold k_wave at hk
  have h1 := sel0 one_n hk
  exact (pwav_c hdr (fr_in (sel1 two_n h1.2) (by decide))).symm
theorem S_heard {N : Nat} {mi : Nat → Int32} {lo : Int64} {dr hd : Nat → Int32} {ig tr : Nat → Nat → Int32} {tw : Nat → Nat → Nat → Int32} {en : Nat → Int32} {vf : Nat → Nat → Int32} {rw : Nat → Int32} {da : Nat → Nat → Int32} {di : Nat → Int32} {sm : Int64} (h : Sim N mi lo dr hd ig tr tw en vf rw da di sm) {b : Int32} (hk : k_heard b = 0) : hd b.toNatClampNeg = da 17 b.toNatClampNeg := by
  obtain ⟨⟨⟨hdr, hig, hV, hdl⟩, ⟨ht, hw⟩, ⟨d0, d1, d2, d3, d4, d5, d6, d7, d8, d9, d10, d11, d12⟩, ⟨hI, hE, hT⟩, ⟨⟨hm0, hm1⟩, hg, hb⟩⟩, hhd, ⟨c13, c14, c15, c16⟩, hlo⟩ := h
  unfold k_heard at hk
  exact (hhd _ (in_lt (fr_in (sel1 one_n hk) (by decide)))).symm
theorem S_step {N : Nat} {mi : Nat → Int32} {lo : Int64} {dr hd : Nat → Int32} {ig tr : Nat → Nat → Int32} {tw : Nat → Nat → Nat → Int32} {en : Nat → Int32} {vf : Nat → Nat → Int32} {rw : Nat → Int32} {da : Nat → Nat → Int32} {di : Nat → Int32} {sm : Int64} (h : Sim N mi lo dr hd ig tr tw en vf rw da di sm) : p_step en = d_step di := by
  obtain ⟨⟨⟨hdr, hig, hV, hdl⟩, ⟨ht, hw⟩, ⟨d0, d1, d2, d3, d4, d5, d6, d7, d8, d9, d10, d11, d12⟩, ⟨hI, hE, hT⟩, ⟨⟨hm0, hm1⟩, hg, hb⟩⟩, hhd, ⟨c13, c14, c15, c16⟩, hlo⟩ := h
  unfold p_step d_step
  rw [d8, d9]
theorem S_loud {N : Nat} {mi : Nat → Int32} {lo : Int64} {dr hd : Nat → Int32} {ig tr : Nat → Nat → Int32} {tw : Nat → Nat → Nat → Int32} {en : Nat → Int32} {vf : Nat → Nat → Int32} {rw : Nat → Int32} {da : Nat → Nat → Int32} {di : Nat → Int32} {sm : Int64} (h : Sim N mi lo dr hd ig tr tw en vf rw da di sm) : p_loud mi lo = d_loud di sm := by
  obtain ⟨⟨⟨hdr, hig, hV, hdl⟩, ⟨ht, hw⟩, ⟨d0, d1, d2, d3, d4, d5, d6, d7, d8, d9, d10, d11, d12⟩, ⟨hI, hE, hT⟩, ⟨⟨hm0, hm1⟩, hg, hb⟩⟩, hhd, ⟨c13, c14, c15, c16⟩, hlo⟩ := h
  unfold p_loud d_loud
  rw [c13, hlo]
theorem S_snd {vf : Nat → Nat → Int32} {da : Nat → Nat → Int32} {N : Nat} (hV : ∀ v, v < 4 → VR N da (vf v) v) : v_snd vf = d_snd (da 3) := by
  have e : ∀ v, v < 4 → v_s1 (vf v) = mk_c (da 3 v) := by
    intro v hv
    rw [(hV v hv).1]
    rfl
  unfold v_snd d_snd
  rw [e 0 (by decide), e 1 (by decide), e 2 (by decide), e 3 (by decide)]
theorem S_sounding {N : Nat} {mi : Nat → Int32} {lo : Int64} {dr hd : Nat → Int32} {ig tr : Nat → Nat → Int32} {tw : Nat → Nat → Nat → Int32} {en : Nat → Int32} {vf : Nat → Nat → Int32} {rw : Nat → Int32} {da : Nat → Nat → Int32} {di : Nat → Int32} {sm : Int64} (h : Sim N mi lo dr hd ig tr tw en vf rw da di sm) : v_snd vf = d_snd (da 3) := S_snd h.1.1.2.2.1
theorem S_next {N : Nat} {mi : Nat → Int32} {lo : Int64} {dr hd : Nat → Int32} {ig tr : Nat → Nat → Int32} {tw : Nat → Nat → Nat → Int32} {en : Nat → Int32} {vf : Nat → Nat → Int32} {rw : Nat → Int32} {da : Nat → Nat → Int32} {di : Nat → Int32} {sm : Int64} (h : Sim N mi lo dr hd ig tr tw en vf rw da di sm) (hN : 4 * N + 1 < 2 ^ 31) : nI (v_nx vf) = nI (d_nxn (da 3) (da 4) (da 13)) := congrArg nI (nx_eq h.1.1.2.2.1 hN).symm
theorem d_tv_eq {N : Nat} {da : Nat → Nat → Int32} {f : Nat → Int32} {v k : Nat} (h : VR N da f v) (hk : k < 10) : p_tv f k = d_tv da v (nI k) := by
  obtain ⟨h1, h2, h3, h4, h5, h6, h7, h8, h9, h10, -, -⟩ := h
  rcases (show k = 0 ∨ k = 1 ∨ k = 2 ∨ k = 3 ∨ k = 4 ∨ k = 5 ∨ k = 6 ∨ k = 7 ∨ k = 8 ∨ k = 9 by omega) with rfl | rfl | rfl | rfl | rfl | rfl | rfl | rfl | rfl | rfl
  · exact h1.symm
  · exact h2.symm
  · exact h3.symm
  · exact h4.symm
  · exact h5.symm
  · exact h6.symm
  · exact h7.symm
  · exact h8.symm
  · exact h9.symm
  · exact h10.symm
theorem S_ofv {N : Nat} {mi : Nat → Int32} {lo : Int64} {dr hd : Nat → Int32} {ig tr : Nat → Nat → Int32} {tw : Nat → Nat → Nat → Int32} {en : Nat → Int32} {vf : Nat → Nat → Int32} {rw : Nat → Int32} {da : Nat → Nat → Int32} {di : Nat → Int32} {sm : Int64} (h : Sim N mi lo dr hd ig tr tw en vf rw da di sm) {i w : Int32} (hk : k_ofv i w = 0) : p_tv (vf i.toNatClampNeg) w.toNatClampNeg = d_tv da i.toNatClampNeg w := by
  obtain ⟨⟨⟨hdr, hig, hV, hdl⟩, ⟨ht, hw⟩, ⟨d0, d1, d2, d3, d4, d5, d6, d7, d8, d9, d10, d11, d12⟩, ⟨hI, hE, hT⟩, ⟨⟨hm0, hm1⟩, hg, hb⟩⟩, hhd, ⟨c13, c14, c15, c16⟩, hlo⟩ := h
  unfold k_ofv at hk
  have h1 := sel0 one_n hk
  obtain ⟨a, ha, rfl⟩ := ix_nat (N := 4) h1.1 (by decide) (by decide)
  obtain ⟨b, hb2, rfl⟩ := vp_in_of (fr_in (N := 10) (sel1 two_n h1.2) (by decide)) (by decide)
  rw [nI_clamp (by omega), nI_clamp (by omega)]
  exact d_tv_eq (hV a ha) hb2
theorem p_ts_eq {tw : Nat → Nat → Nat → Int32} {t j w : Nat} (hw : w < 3) : p_ts tw t j w = tw t w j := by
  rcases (show w = 0 ∨ w = 1 ∨ w = 2 by omega) with rfl | rfl | rfl
  · rfl
  · rfl
  · rfl
theorem S_ofs {N : Nat} {mi : Nat → Int32} {lo : Int64} {dr hd : Nat → Int32} {ig tr : Nat → Nat → Int32} {tw : Nat → Nat → Nat → Int32} {en : Nat → Int32} {vf : Nat → Nat → Int32} {rw : Nat → Int32} {da : Nat → Nat → Int32} {di : Nat → Int32} {sm : Int64} (h : Sim N mi lo dr hd ig tr tw en vf rw da di sm) {t j w : Int32} (hk : k_ofs t j w = 0) : p_ts tw t.toNatClampNeg j.toNatClampNeg w.toNatClampNeg = da 16 ((t.toNatClampNeg * 8 + j.toNatClampNeg) * 3 + w.toNatClampNeg) := by
  obtain ⟨⟨⟨hdr, hig, hV, hdl⟩, ⟨ht, hw⟩, ⟨d0, d1, d2, d3, d4, d5, d6, d7, d8, d9, d10, d11, d12⟩, ⟨hI, hE, hT⟩, ⟨⟨hm0, hm1⟩, hg, hb⟩⟩, hhd, ⟨c13, c14, c15, c16⟩, hlo⟩ := h
  unfold k_ofs at hk
  have h1 := sel0 one_n hk
  have h2 := sel0 one_n h1.2
  have ht2 := in_lt (ix_in (N := 3) h1.1 (by decide))
  have hj2 := in_lt (ix_in (N := 8) h2.1 (by decide))
  have hw2 := in_lt (fr_in (N := 3) (sel1 two_n h2.2) (by decide))
  rw [p_ts_eq hw2, hw _ ht2 _ hj2 _ hw2]
theorem S_ind {N : Nat} {mi : Nat → Int32} {lo : Int64} {dr hd : Nat → Int32} {ig tr : Nat → Nat → Int32} {tw : Nat → Nat → Nat → Int32} {en : Nat → Int32} {vf : Nat → Nat → Int32} {rw : Nat → Int32} {da : Nat → Nat → Int32} {di : Nat → Int32} {sm : Int64} (h : Sim N mi lo dr hd ig tr tw en vf rw da di sm) {p : Int32} (hk : k_ind (mi 3) p = 0) : rw (prm (en 0 + p) (mi 3)).toNatClampNeg = da 14 p.toNatClampNeg := by
  obtain ⟨⟨⟨hdr, hig, hV, hdl⟩, ⟨ht, hw⟩, ⟨d0, d1, d2, d3, d4, d5, d6, d7, d8, d9, d10, d11, d12⟩, ⟨hI, hE, hT⟩, ⟨⟨hm0, hm1⟩, hg, hb⟩⟩, hhd, ⟨c13, c14, c15, c16⟩, hlo⟩ := h
  unfold k_ind at hk
  have h1 := sel1 one_n hk
  obtain ⟨L, hL, hL2, e⟩ := rg_nI hE.2.2.2.1
  rw [e] at h1
  obtain ⟨k, hk2, rfl⟩ := ix_nat h1 (nI_toInt hL2) hL2
  rw [nI_clamp (by omega), hdl k (by rw [e, nI_clamp hL2]; exact hk2)]
  rfl
