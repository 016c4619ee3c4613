/-! contracts: asking by index -/
set_option maxRecDepth 100000


set_option maxHeartbeats 4000000 in
set_option maxRecDepth 100000 in
theorem m_X1_ofVoice (l : Launch) (hst : l.stackTraces = false) (g : gG) (ad ed : Nat → Nat) (mi : Nat → Int32) (lo su : Int64) (en : Nat → Int32) (vf : Nat → Nat → Int32) (i wh : Int32) : gXi l yX1_ofVoice cX1_ofVoice 5 .int 8 131 3 22 g [((ad 0), cM ad (ed 0) mi lo su), ((ed 0), cE (ed 1) (ed 7) (ad 0) en), ((ed 1), cA (ed 2) al4), ((ed 2), .inl (g.2.2.1, 10, .inr (.inr (.inr (.inr (vq ed)))))), ((ed 3), cV (vf 0)), ((ed 4), cV (vf 1)), ((ed 5), cV (vf 2)), ((ed 6), cV (vf 3))] [.ref (ad 0), .int i, .int wh] (fun (r : Int32) (_ : Unit) => (k_ofv i wh) = 0 ∧ r = p_tv (vf i.toNatClampNeg) wh.toNatClampNeg) (fun _ : Unit => [((ad 0), cM ad (ed 0) mi lo su), ((ed 0), cE (ed 1) (ed 7) (ad 0) en), ((ed 1), cA (ed 2) al4), ((ed 2), .inl (g.2.2.1, 10, .inr (.inr (.inr (.inr (vq ed)))))), ((ed 3), cV (vf 0)), ((ed 4), cV (vf 1)), ((ed 5), cV (vf 2)), ((ed 6), cV (vf 3))]) (fun E : String => (E = eIO ∧ (k_ofv i wh) = 1) ∨ (E = eIA ∧ (k_ofv i wh) = 2)) := by
  intro sz
  refine g_xent (by decide) hst [(0, .ref (ad 0)), (1, .int i), (2, .int wh)] (Nat.le_of_ble_eq_true rfl) rfl ?_
  intro p e s m below meth c B hr hnm hsz hT
  have B : gB p l s m ([.ref (ad 0), .int i, .int wh] : List Value).toArray meth c RX1 cX1_ofVoice 5 g (va_A [((ad 0), cM ad (ed 0) mi lo su), ((ed 0), cE (ed 1) (ed 7) (ad 0) en), ((ed 1), cA (ed 2) al4), ((ed 2), .inl (g.2.2.1, 10, .inr (.inr (.inr (.inr (vq ed)))))), ((ed 3), cV (vf 0)), ((ed 4), cV (vf 1)), ((ed 5), cV (vf 2)), ((ed 6), cV (vf 3))] sz) := B
  have hA9 : (va_A [((ad 0), cM ad (ed 0) mi lo su), ((ed 0), cE (ed 1) (ed 7) (ad 0) en), ((ed 1), cA (ed 2) al4), ((ed 2), .inl (g.2.2.1, 10, .inr (.inr (.inr (.inr (vq ed)))))), ((ed 3), cV (vf 0)), ((ed 4), cV (vf 1)), ((ed 5), cV (vf 2)), ((ed 6), cV (vf 3))] sz) = va_A [((ad 0), cM ad (ed 0) mi lo su), ((ed 0), cE (ed 1) (ed 7) (ad 0) en), ((ed 1), cA (ed 2) al4), ((ed 2), .inl (g.2.2.1, 10, .inr (.inr (.inr (.inr (vq ed)))))), ((ed 3), cV (vf 0)), ((ed 4), cV (vf 1)), ((ed 5), cV (vf 2)), ((ed 6), cV (vf 3))] s.heap.size := by rw [hsz]
  subst hsz
  by_cases b_1 : ix_k i 4 = 0
  · skip
    obtain ⟨q_2, hq_2, e_3⟩ := ix_nat (N := 4) b_1 (by decide) (by decide)
    rcases (show q_2 = 0 ∨ q_2 = 1 ∨ q_2 = 2 ∨ q_2 = 3 by omega) with rfl | rfl | rfl | rfl
    · skip
      replace e_3 : i = 0 := e_3
      have te_3 : i.toNatClampNeg = 0 := by rw [e_3]; decide
      refine g_lvq (lv' := [(0, .ref (ad 0)), (1, .int 0), (2, .int wh)]) (by rw [e_3]) ?_
      refine g_aload_n B 0 0 dX1_ofVoice_0 rfl rfl ?_
      refine g_iload_n B 1 1 dX1_ofVoice_1 rfl rfl ?_
      refine g_cuV_q (C := RX1) (T := TX1) (N := 17) (As := [.int 0]) B (m_X1_voice l hst g ad ed mi lo su en 0 0 (by decide) (by decide) (vf 0)) 0 0 rfl rfl [0, 1, 2, 3, 4] [] (lw_V q665 q667 qs12 q26 q668) nvX1_voice rfl rfl rfl rfl (Nat.le_of_ble_eq_true rfl) dX1_ofVoice_2 ⟨Nat.le_of_ble_eq_true rfl, Nat.le_of_ble_eq_true rfl⟩ ⟨Nat.le_of_ble_eq_true rfl, Nat.le_of_ble_eq_true rfl⟩ (fun r_4 ur_4 hr_4 => ?_)
      obtain rfl : some (ed 3) = r_4 := (hr_4).symm
      refine g_eqs (st' := [.ref (ed 3)]) rfl ?_
      refine g_astore_n B 3 [(3, .ref (ed 3)), (0, .ref (ad 0)), (1, .int 0), (2, .int wh)] dX1_ofVoice_5 rfl (Nat.le_of_ble_eq_true rfl) rfl ?_
      refine g_iconst (v := 0) B dX1_ofVoice_6 kc_0 ?_
      refine g_bipush (v := 9) B dX1_ofVoice_7 kb_9 ?_
      refine g_iload_n B 2 3 dX1_ofVoice_9 rfl rfl ?_
      refine g_xuS_v (As := [.int 0, .int 9, .int wh]) B (m_X1_requireFrom l hst g 0 9 wh) [] [] (lw_S q580 q581 q26 q582) nsX1_requireFrom rfl rfl rfl rfl (Nat.le_of_ble_eq_true rfl) dX1_ofVoice_10 ⟨Nat.le_of_ble_eq_true rfl, Nat.le_of_ble_eq_true rfl⟩ ⟨Nat.le_of_ble_eq_true rfl, Nat.le_of_ble_eq_true rfl⟩ (fun E hE => ?_) (fun ur_5 hr_5 => ?_)
      · skip
        have hK9 : ¬ (fr_k 0 9 wh) = 0 := by rw [hE.2]; decide
        exact g_xout B hT hA9 (Nat.le_of_ble_eq_true rfl) (Nat.le_of_ble_eq_true rfl) (Or.inr ⟨hE.1, (by first | exact hE.2 | (simp only [k_ofv, if_pos b_1, te_3, if_neg hK9]; done) | (simp only [k_ofv, if_pos b_1, te_3, if_neg hK9]; rfl) | rfl)⟩) [0, 1, 2, 3, 4, 5, 6, 7] rfl rfl
      have kr_5 : (fr_k 0 9 wh) = 0 := hr_5
      refine g_bipush (v := 10) B dX1_ofVoice_13 kb_10 ?_
      refine g_newa B 10 q83 (by decide) (by decide) (Nat.le_of_ble_eq_true rfl) (Nat.le_of_ble_eq_true rfl) (Nat.le_of_ble_eq_true rfl) dX1_ofVoice_15 (fun a_6 => ?_)
      refine g_dup B dX1_ofVoice_17 rfl ?_
      refine g_iconst (v := 0) B dX1_ofVoice_18 kc_0 ?_
      refine g_aload_n B 3 0 dX1_ofVoice_19 rfl rfl ?_
      refine g_getN (C := RX5) (T := TX5) (N := 11) B 4 4 0 (.int ((vf 0) 0)) in_X5 rfl q292 rfl (Nat.le_of_ble_eq_true rfl) (fun _ h9 => h9) rfl dX1_ofVoice_20 ?_
      refine g_iast B 8 0 [((ad 0), cM ad (ed 0) mi lo su), ((ed 0), cE (ed 1) (ed 7) (ad 0) en), ((ed 1), cA (ed 2) al4), ((ed 2), .inl (g.2.2.1, 10, .inr (.inr (.inr (.inr (vq ed)))))), ((ed 3), cV (vf 0)), ((ed 4), cV (vf 1)), ((ed 5), cV (vf 2)), ((ed 6), cV (vf 3)), (a_6, .inl (g.2.1, 10, .inl (upd (fun _ => 0) 0 ((vf 0) 0))))] rfl (by decide) (vpc rfl) rfl dX1_ofVoice_23 ?_
      refine g_dup B dX1_ofVoice_24 rfl ?_
      refine g_iconst (v := 1) B dX1_ofVoice_25 kc_1 ?_
      refine g_aload_n B 3 0 dX1_ofVoice_26 rfl rfl ?_
      refine g_getN (C := RX5) (T := TX5) (N := 11) B 4 4 1 (.int ((vf 0) 1)) in_X5 rfl q295 rfl (Nat.le_of_ble_eq_true rfl) (fun _ h9 => h9) rfl dX1_ofVoice_27 ?_
      refine g_iast B 8 1 [((ad 0), cM ad (ed 0) mi lo su), ((ed 0), cE (ed 1) (ed 7) (ad 0) en), ((ed 1), cA (ed 2) al4), ((ed 2), .inl (g.2.2.1, 10, .inr (.inr (.inr (.inr (vq ed)))))), ((ed 3), cV (vf 0)), ((ed 4), cV (vf 1)), ((ed 5), cV (vf 2)), ((ed 6), cV (vf 3)), (a_6, .inl (g.2.1, 10, .inl (upd (upd (fun _ => 0) 0 ((vf 0) 0)) 1 ((vf 0) 1))))] rfl (by decide) (vpc rfl) rfl dX1_ofVoice_30 ?_
      refine g_dup B dX1_ofVoice_31 rfl ?_
      refine g_iconst (v := 2) B dX1_ofVoice_32 kc_2 ?_
      refine g_aload_n B 3 0 dX1_ofVoice_33 rfl rfl ?_
      refine g_getN (C := RX5) (T := TX5) (N := 11) B 4 4 2 (.int ((vf 0) 2)) in_X5 rfl q298 rfl (Nat.le_of_ble_eq_true rfl) (fun _ h9 => h9) rfl dX1_ofVoice_34 ?_
      refine g_iast B 8 2 [((ad 0), cM ad (ed 0) mi lo su), ((ed 0), cE (ed 1) (ed 7) (ad 0) en), ((ed 1), cA (ed 2) al4), ((ed 2), .inl (g.2.2.1, 10, .inr (.inr (.inr (.inr (vq ed)))))), ((ed 3), cV (vf 0)), ((ed 4), cV (vf 1)), ((ed 5), cV (vf 2)), ((ed 6), cV (vf 3)), (a_6, .inl (g.2.1, 10, .inl (upd (upd (upd (fun _ => 0) 0 ((vf 0) 0)) 1 ((vf 0) 1)) 2 ((vf 0) 2))))] rfl (by decide) (vpc rfl) rfl dX1_ofVoice_37 ?_
      refine g_dup B dX1_ofVoice_38 rfl ?_
      refine g_iconst (v := 3) B dX1_ofVoice_39 kc_3 ?_
      refine g_aload_n B 3 0 dX1_ofVoice_40 rfl rfl ?_
      refine g_getN (C := RX5) (T := TX5) (N := 11) B 4 4 3 (.int ((vf 0) 3)) in_X5 rfl q301 rfl (Nat.le_of_ble_eq_true rfl) (fun _ h9 => h9) rfl dX1_ofVoice_41 ?_
      refine g_iast B 8 3 [((ad 0), cM ad (ed 0) mi lo su), ((ed 0), cE (ed 1) (ed 7) (ad 0) en), ((ed 1), cA (ed 2) al4), ((ed 2), .inl (g.2.2.1, 10, .inr (.inr (.inr (.inr (vq ed)))))), ((ed 3), cV (vf 0)), ((ed 4), cV (vf 1)), ((ed 5), cV (vf 2)), ((ed 6), cV (vf 3)), (a_6, .inl (g.2.1, 10, .inl (upd (upd (upd (upd (fun _ => 0) 0 ((vf 0) 0)) 1 ((vf 0) 1)) 2 ((vf 0) 2)) 3 ((vf 0) 3))))] rfl (by decide) (vpc rfl) rfl dX1_ofVoice_44 ?_
      refine g_dup B dX1_ofVoice_45 rfl ?_
      refine g_iconst (v := 4) B dX1_ofVoice_46 kc_4 ?_
      refine g_aload_n B 3 0 dX1_ofVoice_47 rfl rfl ?_
      refine g_getN (C := RX5) (T := TX5) (N := 11) B 4 4 4 (.int ((vf 0) 4)) in_X5 rfl q303 rfl (Nat.le_of_ble_eq_true rfl) (fun _ h9 => h9) rfl dX1_ofVoice_48 ?_
      refine g_iast B 8 4 [((ad 0), cM ad (ed 0) mi lo su), ((ed 0), cE (ed 1) (ed 7) (ad 0) en), ((ed 1), cA (ed 2) al4), ((ed 2), .inl (g.2.2.1, 10, .inr (.inr (.inr (.inr (vq ed)))))), ((ed 3), cV (vf 0)), ((ed 4), cV (vf 1)), ((ed 5), cV (vf 2)), ((ed 6), cV (vf 3)), (a_6, .inl (g.2.1, 10, .inl (upd (upd (upd (upd (upd (fun _ => 0) 0 ((vf 0) 0)) 1 ((vf 0) 1)) 2 ((vf 0) 2)) 3 ((vf 0) 3)) 4 ((vf 0) 4))))] rfl (by decide) (vpc rfl) rfl dX1_ofVoice_51 ?_
      refine g_dup B dX1_ofVoice_52 rfl ?_
      refine g_iconst (v := 5) B dX1_ofVoice_53 kc_5 ?_
      refine g_aload_n B 3 0 dX1_ofVoice_54 rfl rfl ?_
      refine g_getN (C := RX5) (T := TX5) (N := 11) B 4 4 6 (.int ((vf 0) 6)) in_X5 rfl q308 rfl (Nat.le_of_ble_eq_true rfl) (fun _ h9 => h9) rfl dX1_ofVoice_55 ?_
      refine g_iast B 8 5 [((ad 0), cM ad (ed 0) mi lo su), ((ed 0), cE (ed 1) (ed 7) (ad 0) en), ((ed 1), cA (ed 2) al4), ((ed 2), .inl (g.2.2.1, 10, .inr (.inr (.inr (.inr (vq ed)))))), ((ed 3), cV (vf 0)), ((ed 4), cV (vf 1)), ((ed 5), cV (vf 2)), ((ed 6), cV (vf 3)), (a_6, .inl (g.2.1, 10, .inl (upd (upd (upd (upd (upd (upd (fun _ => 0) 0 ((vf 0) 0)) 1 ((vf 0) 1)) 2 ((vf 0) 2)) 3 ((vf 0) 3)) 4 ((vf 0) 4)) 5 ((vf 0) 6))))] rfl (by decide) (vpc rfl) rfl dX1_ofVoice_58 ?_
      refine g_dup B dX1_ofVoice_59 rfl ?_
      refine g_bipush (v := 6) B dX1_ofVoice_60 kb_6 ?_
      refine g_aload_n B 3 0 dX1_ofVoice_62 rfl rfl ?_
      refine g_getN (C := RX5) (T := TX5) (N := 11) B 4 4 7 (.int ((vf 0) 7)) in_X5 rfl q311 rfl (Nat.le_of_ble_eq_true rfl) (fun _ h9 => h9) rfl dX1_ofVoice_63 ?_
      refine g_iast B 8 6 [((ad 0), cM ad (ed 0) mi lo su), ((ed 0), cE (ed 1) (ed 7) (ad 0) en), ((ed 1), cA (ed 2) al4), ((ed 2), .inl (g.2.2.1, 10, .inr (.inr (.inr (.inr (vq ed)))))), ((ed 3), cV (vf 0)), ((ed 4), cV (vf 1)), ((ed 5), cV (vf 2)), ((ed 6), cV (vf 3)), (a_6, .inl (g.2.1, 10, .inl (upd (upd (upd (upd (upd (upd (upd (fun _ => 0) 0 ((vf 0) 0)) 1 ((vf 0) 1)) 2 ((vf 0) 2)) 3 ((vf 0) 3)) 4 ((vf 0) 4)) 5 ((vf 0) 6)) 6 ((vf 0) 7))))] rfl (by decide) (vpc rfl) rfl dX1_ofVoice_66 ?_
      refine g_dup B dX1_ofVoice_67 rfl ?_
      refine g_bipush (v := 7) B dX1_ofVoice_68 kb_7 ?_
      refine g_aload_n B 3 0 dX1_ofVoice_70 rfl rfl ?_
      refine g_getN (C := RX5) (T := TX5) (N := 11) B 4 4 8 (.int ((vf 0) 8)) in_X5 rfl q313 rfl (Nat.le_of_ble_eq_true rfl) (fun _ h9 => h9) rfl dX1_ofVoice_71 ?_
      refine g_iast B 8 7 [((ad 0), cM ad (ed 0) mi lo su), ((ed 0), cE (ed 1) (ed 7) (ad 0) en), ((ed 1), cA (ed 2) al4), ((ed 2), .inl (g.2.2.1, 10, .inr (.inr (.inr (.inr (vq ed)))))), ((ed 3), cV (vf 0)), ((ed 4), cV (vf 1)), ((ed 5), cV (vf 2)), ((ed 6), cV (vf 3)), (a_6, .inl (g.2.1, 10, .inl (upd (upd (upd (upd (upd (upd (upd (upd (fun _ => 0) 0 ((vf 0) 0)) 1 ((vf 0) 1)) 2 ((vf 0) 2)) 3 ((vf 0) 3)) 4 ((vf 0) 4)) 5 ((vf 0) 6)) 6 ((vf 0) 7)) 7 ((vf 0) 8))))] rfl (by decide) (vpc rfl) rfl dX1_ofVoice_74 ?_
      refine g_dup B dX1_ofVoice_75 rfl ?_
      refine g_bipush (v := 8) B dX1_ofVoice_76 kb_8 ?_
      refine g_aload_n B 3 0 dX1_ofVoice_78 rfl rfl ?_
      refine g_getN (C := RX5) (T := TX5) (N := 11) B 4 4 9 (.int ((vf 0) 9)) in_X5 rfl q315 rfl (Nat.le_of_ble_eq_true rfl) (fun _ h9 => h9) rfl dX1_ofVoice_79 ?_
      refine g_iast B 8 8 [((ad 0), cM ad (ed 0) mi lo su), ((ed 0), cE (ed 1) (ed 7) (ad 0) en), ((ed 1), cA (ed 2) al4), ((ed 2), .inl (g.2.2.1, 10, .inr (.inr (.inr (.inr (vq ed)))))), ((ed 3), cV (vf 0)), ((ed 4), cV (vf 1)), ((ed 5), cV (vf 2)), ((ed 6), cV (vf 3)), (a_6, .inl (g.2.1, 10, .inl (upd (upd (upd (upd (upd (upd (upd (upd (upd (fun _ => 0) 0 ((vf 0) 0)) 1 ((vf 0) 1)) 2 ((vf 0) 2)) 3 ((vf 0) 3)) 4 ((vf 0) 4)) 5 ((vf 0) 6)) 6 ((vf 0) 7)) 7 ((vf 0) 8)) 8 ((vf 0) 9))))] rfl (by decide) (vpc rfl) rfl dX1_ofVoice_82 ?_
      refine g_dup B dX1_ofVoice_83 rfl ?_
      refine g_bipush (v := 9) B dX1_ofVoice_84 kb_9 ?_
      refine g_aload_n B 3 0 dX1_ofVoice_86 rfl rfl ?_
      refine g_getN (C := RX5) (T := TX5) (N := 11) B 4 4 10 (.int ((vf 0) 10)) in_X5 rfl q318 rfl (Nat.le_of_ble_eq_true rfl) (fun _ h9 => h9) rfl dX1_ofVoice_87 ?_
      refine g_iast B 8 9 [((ad 0), cM ad (ed 0) mi lo su), ((ed 0), cE (ed 1) (ed 7) (ad 0) en), ((ed 1), cA (ed 2) al4), ((ed 2), .inl (g.2.2.1, 10, .inr (.inr (.inr (.inr (vq ed)))))), ((ed 3), cV (vf 0)), ((ed 4), cV (vf 1)), ((ed 5), cV (vf 2)), ((ed 6), cV (vf 3)), (a_6, .inl (g.2.1, 10, .inl (upd (upd (upd (upd (upd (upd (upd (upd (upd (upd (fun _ => 0) 0 ((vf 0) 0)) 1 ((vf 0) 1)) 2 ((vf 0) 2)) 3 ((vf 0) 3)) 4 ((vf 0) 4)) 5 ((vf 0) 6)) 6 ((vf 0) 7)) 7 ((vf 0) 8)) 8 ((vf 0) 9)) 9 ((vf 0) 10))))] rfl (by decide) (vpc rfl) rfl dX1_ofVoice_90 ?_
      refine g_astore B [(4, .ref a_6), (3, .ref (ed 3)), (0, .ref (ad 0)), (1, .int 0), (2, .int wh)] dX1_ofVoice_91 (Nat.le_of_ble_eq_true rfl) rfl ?_
      refine g_aload B 0 dX1_ofVoice_93 rfl ?_
      refine g_iload_n B 2 4 dX1_ofVoice_95 rfl rfl ?_
      refine g_iald B 8 wh.toNatClampNeg rfl rfl (fr_in kr_5 (by decide)) dX1_ofVoice_96 ?_
      refine g_topi (fun x_7 ex_7 => ?_)
      subst ex_7
      exact g_xiret B hr dX1_ofVoice_97 (Nat.le_of_ble_eq_true rfl) (Nat.le_of_ble_eq_true rfl) () ⟨(by first | (simp only [k_ofv, if_pos b_1, te_3, if_pos kr_5]; done) | (simp only [k_ofv, if_pos b_1, te_3, if_pos kr_5]; rfl) | rfl), (by first | (simp only [if_pos b_1, te_3, if_pos kr_5]; done) | (simp only [if_pos b_1, te_3, if_pos kr_5]; rfl) | rfl)⟩ [0, 1, 2, 3, 4, 5, 6, 7] rfl rfl
    · skip
      replace e_3 : i = 1 := e_3
      have te_3 : i.toNatClampNeg = 1 := by rw [e_3]; decide
      refine g_lvq (lv' := [(0, .ref (ad 0)), (1, .int 1), (2, .int wh)]) (by rw [e_3]) ?_
      refine g_aload_n B 0 0 dX1_ofVoice_0 rfl rfl ?_
      refine g_iload_n B 1 1 dX1_ofVoice_1 rfl rfl ?_
      refine g_cuV_q (C := RX1) (T := TX1) (N := 17) (As := [.int 1]) B (m_X1_voice l hst g ad ed mi lo su en 1 1 (by decide) (by decide) (vf 1)) 0 0 rfl rfl [0, 1, 2, 3, 5] [] (lw_V q665 q667 qs12 q26 q668) nvX1_voice rfl rfl rfl rfl (Nat.le_of_ble_eq_true rfl) dX1_ofVoice_2 ⟨Nat.le_of_ble_eq_true rfl, Nat.le_of_ble_eq_true rfl⟩ ⟨Nat.le_of_ble_eq_true rfl, Nat.le_of_ble_eq_true rfl⟩ (fun r_8 ur_8 hr_8 => ?_)
      obtain rfl : some (ed 4) = r_8 := (hr_8).symm
      refine g_eqs (st' := [.ref (ed 4)]) rfl ?_
      refine g_astore_n B 3 [(3, .ref (ed 4)), (0, .ref (ad 0)), (1, .int 1), (2, .int wh)] dX1_ofVoice_5 rfl (Nat.le_of_ble_eq_true rfl) rfl ?_
      refine g_iconst (v := 0) B dX1_ofVoice_6 kc_0 ?_
      refine g_bipush (v := 9) B dX1_ofVoice_7 kb_9 ?_
      refine g_iload_n B 2 3 dX1_ofVoice_9 rfl rfl ?_
      refine g_xuS_v (As := [.int 0, .int 9, .int wh]) B (m_X1_requireFrom l hst g 0 9 wh) [] [] (lw_S q580 q581 q26 q582) nsX1_requireFrom rfl rfl rfl rfl (Nat.le_of_ble_eq_true rfl) dX1_ofVoice_10 ⟨Nat.le_of_ble_eq_true rfl, Nat.le_of_ble_eq_true rfl⟩ ⟨Nat.le_of_ble_eq_true rfl, Nat.le_of_ble_eq_true rfl⟩ (fun E hE => ?_) (fun ur_9 hr_9 => ?_)
      · skip
        have hK9 : ¬ (fr_k 0 9 wh) = 0 := by rw [hE.2]; decide
        exact g_xout B hT hA9 (Nat.le_of_ble_eq_true rfl) (Nat.le_of_ble_eq_true rfl) (Or.inr ⟨hE.1, (by first | exact hE.2 | (simp only [k_ofv, if_pos b_1, te_3, if_neg hK9]; done) | (simp only [k_ofv, if_pos b_1, te_3, if_neg hK9]; rfl) | rfl)⟩) [0, 1, 2, 3, 4, 5, 6, 7] rfl rfl
      have kr_9 : (fr_k 0 9 wh) = 0 := hr_9
      refine g_bipush (v := 10) B dX1_ofVoice_13 kb_10 ?_
      refine g_newa B 10 q83 (by decide) (by decide) (Nat.le_of_ble_eq_true rfl) (Nat.le_of_ble_eq_true rfl) (Nat.le_of_ble_eq_true rfl) dX1_ofVoice_15 (fun a_10 => ?_)
      refine g_dup B dX1_ofVoice_17 rfl ?_
      refine g_iconst (v := 0) B dX1_ofVoice_18 kc_0 ?_
      refine g_aload_n B 3 0 dX1_ofVoice_19 rfl rfl ?_
      refine g_getN (C := RX5) (T := TX5) (N := 11) B 4 5 0 (.int ((vf 1) 0)) in_X5 rfl q292 rfl (Nat.le_of_ble_eq_true rfl) (fun _ h9 => h9) rfl dX1_ofVoice_20 ?_
      refine g_iast B 8 0 [((ad 0), cM ad (ed 0) mi lo su), ((ed 0), cE (ed 1) (ed 7) (ad 0) en), ((ed 1), cA (ed 2) al4), ((ed 2), .inl (g.2.2.1, 10, .inr (.inr (.inr (.inr (vq ed)))))), ((ed 3), cV (vf 0)), ((ed 4), cV (vf 1)), ((ed 5), cV (vf 2)), ((ed 6), cV (vf 3)), (a_10, .inl (g.2.1, 10, .inl (upd (fun _ => 0) 0 ((vf 1) 0))))] rfl (by decide) (vpc rfl) rfl dX1_ofVoice_23 ?_
      refine g_dup B dX1_ofVoice_24 rfl ?_
      refine g_iconst (v := 1) B dX1_ofVoice_25 kc_1 ?_
      refine g_aload_n B 3 0 dX1_ofVoice_26 rfl rfl ?_
      refine g_getN (C := RX5) (T := TX5) (N := 11) B 4 5 1 (.int ((vf 1) 1)) in_X5 rfl q295 rfl (Nat.le_of_ble_eq_true rfl) (fun _ h9 => h9) rfl dX1_ofVoice_27 ?_
      refine g_iast B 8 1 [((ad 0), cM ad (ed 0) mi lo su), ((ed 0), cE (ed 1) (ed 7) (ad 0) en), ((ed 1), cA (ed 2) al4), ((ed 2), .inl (g.2.2.1, 10, .inr (.inr (.inr (.inr (vq ed)))))), ((ed 3), cV (vf 0)), ((ed 4), cV (vf 1)), ((ed 5), cV (vf 2)), ((ed 6), cV (vf 3)), (a_10, .inl (g.2.1, 10, .inl (upd (upd (fun _ => 0) 0 ((vf 1) 0)) 1 ((vf 1) 1))))] rfl (by decide) (vpc rfl) rfl dX1_ofVoice_30 ?_
      refine g_dup B dX1_ofVoice_31 rfl ?_
      refine g_iconst (v := 2) B dX1_ofVoice_32 kc_2 ?_
      refine g_aload_n B 3 0 dX1_ofVoice_33 rfl rfl ?_
      refine g_getN (C := RX5) (T := TX5) (N := 11) B 4 5 2 (.int ((vf 1) 2)) in_X5 rfl q298 rfl (Nat.le_of_ble_eq_true rfl) (fun _ h9 => h9) rfl dX1_ofVoice_34 ?_
      refine g_iast B 8 2 [((ad 0), cM ad (ed 0) mi lo su), ((ed 0), cE (ed 1) (ed 7) (ad 0) en), ((ed 1), cA (ed 2) al4), ((ed 2), .inl (g.2.2.1, 10, .inr (.inr (.inr (.inr (vq ed)))))), ((ed 3), cV (vf 0)), ((ed 4), cV (vf 1)), ((ed 5), cV (vf 2)), ((ed 6), cV (vf 3)), (a_10, .inl (g.2.1, 10, .inl (upd (upd (upd (fun _ => 0) 0 ((vf 1) 0)) 1 ((vf 1) 1)) 2 ((vf 1) 2))))] rfl (by decide) (vpc rfl) rfl dX1_ofVoice_37 ?_
      refine g_dup B dX1_ofVoice_38 rfl ?_
      refine g_iconst (v := 3) B dX1_ofVoice_39 kc_3 ?_
      refine g_aload_n B 3 0 dX1_ofVoice_40 rfl rfl ?_
      refine g_getN (C := RX5) (T := TX5) (N := 11) B 4 5 3 (.int ((vf 1) 3)) in_X5 rfl q301 rfl (Nat.le_of_ble_eq_true rfl) (fun _ h9 => h9) rfl dX1_ofVoice_41 ?_
      refine g_iast B 8 3 [((ad 0), cM ad (ed 0) mi lo su), ((ed 0), cE (ed 1) (ed 7) (ad 0) en), ((ed 1), cA (ed 2) al4), ((ed 2), .inl (g.2.2.1, 10, .inr (.inr (.inr (.inr (vq ed)))))), ((ed 3), cV (vf 0)), ((ed 4), cV (vf 1)), ((ed 5), cV (vf 2)), ((ed 6), cV (vf 3)), (a_10, .inl (g.2.1, 10, .inl (upd (upd (upd (upd (fun _ => 0) 0 ((vf 1) 0)) 1 ((vf 1) 1)) 2 ((vf 1) 2)) 3 ((vf 1) 3))))] rfl (by decide) (vpc rfl) rfl dX1_ofVoice_44 ?_
      refine g_dup B dX1_ofVoice_45 rfl ?_
      refine g_iconst (v := 4) B dX1_ofVoice_46 kc_4 ?_
      refine g_aload_n B 3 0 dX1_ofVoice_47 rfl rfl ?_
      refine g_getN (C := RX5) (T := TX5) (N := 11) B 4 5 4 (.int ((vf 1) 4)) in_X5 rfl q303 rfl (Nat.le_of_ble_eq_true rfl) (fun _ h9 => h9) rfl dX1_ofVoice_48 ?_
      refine g_iast B 8 4 [((ad 0), cM ad (ed 0) mi lo su), ((ed 0), cE (ed 1) (ed 7) (ad 0) en), ((ed 1), cA (ed 2) al4), ((ed 2), .inl (g.2.2.1, 10, .inr (.inr (.inr (.inr (vq ed)))))), ((ed 3), cV (vf 0)), ((ed 4), cV (vf 1)), ((ed 5), cV (vf 2)), ((ed 6), cV (vf 3)), (a_10, .inl (g.2.1, 10, .inl (upd (upd (upd (upd (upd (fun _ => 0) 0 ((vf 1) 0)) 1 ((vf 1) 1)) 2 ((vf 1) 2)) 3 ((vf 1) 3)) 4 ((vf 1) 4))))] rfl (by decide) (vpc rfl) rfl dX1_ofVoice_51 ?_
      refine g_dup B dX1_ofVoice_52 rfl ?_
      refine g_iconst (v := 5) B dX1_ofVoice_53 kc_5 ?_
      refine g_aload_n B 3 0 dX1_ofVoice_54 rfl rfl ?_
      refine g_getN (C := RX5) (T := TX5) (N := 11) B 4 5 6 (.int ((vf 1) 6)) in_X5 rfl q308 rfl (Nat.le_of_ble_eq_true rfl) (fun _ h9 => h9) rfl dX1_ofVoice_55 ?_
      refine g_iast B 8 5 [((ad 0), cM ad (ed 0) mi lo su), ((ed 0), cE (ed 1) (ed 7) (ad 0) en), ((ed 1), cA (ed 2) al4), ((ed 2), .inl (g.2.2.1, 10, .inr (.inr (.inr (.inr (vq ed)))))), ((ed 3), cV (vf 0)), ((ed 4), cV (vf 1)), ((ed 5), cV (vf 2)), ((ed 6), cV (vf 3)), (a_10, .inl (g.2.1, 10, .inl (upd (upd (upd (upd (upd (upd (fun _ => 0) 0 ((vf 1) 0)) 1 ((vf 1) 1)) 2 ((vf 1) 2)) 3 ((vf 1) 3)) 4 ((vf 1) 4)) 5 ((vf 1) 6))))] rfl (by decide) (vpc rfl) rfl dX1_ofVoice_58 ?_
      refine g_dup B dX1_ofVoice_59 rfl ?_
      refine g_bipush (v := 6) B dX1_ofVoice_60 kb_6 ?_
      refine g_aload_n B 3 0 dX1_ofVoice_62 rfl rfl ?_
      refine g_getN (C := RX5) (T := TX5) (N := 11) B 4 5 7 (.int ((vf 1) 7)) in_X5 rfl q311 rfl (Nat.le_of_ble_eq_true rfl) (fun _ h9 => h9) rfl dX1_ofVoice_63 ?_
      refine g_iast B 8 6 [((ad 0), cM ad (ed 0) mi lo su), ((ed 0), cE (ed 1) (ed 7) (ad 0) en), ((ed 1), cA (ed 2) al4), ((ed 2), .inl (g.2.2.1, 10, .inr (.inr (.inr (.inr (vq ed)))))), ((ed 3), cV (vf 0)), ((ed 4), cV (vf 1)), ((ed 5), cV (vf 2)), ((ed 6), cV (vf 3)), (a_10, .inl (g.2.1, 10, .inl (upd (upd (upd (upd (upd (upd (upd (fun _ => 0) 0 ((vf 1) 0)) 1 ((vf 1) 1)) 2 ((vf 1) 2)) 3 ((vf 1) 3)) 4 ((vf 1) 4)) 5 ((vf 1) 6)) 6 ((vf 1) 7))))] rfl (by decide) (vpc rfl) rfl dX1_ofVoice_66 ?_
      refine g_dup B dX1_ofVoice_67 rfl ?_
      refine g_bipush (v := 7) B dX1_ofVoice_68 kb_7 ?_
      refine g_aload_n B 3 0 dX1_ofVoice_70 rfl rfl ?_
      refine g_getN (C := RX5) (T := TX5) (N := 11) B 4 5 8 (.int ((vf 1) 8)) in_X5 rfl q313 rfl (Nat.le_of_ble_eq_true rfl) (fun _ h9 => h9) rfl dX1_ofVoice_71 ?_
      refine g_iast B 8 7 [((ad 0), cM ad (ed 0) mi lo su), ((ed 0), cE (ed 1) (ed 7) (ad 0) en), ((ed 1), cA (ed 2) al4), ((ed 2), .inl (g.2.2.1, 10, .inr (.inr (.inr (.inr (vq ed)))))), ((ed 3), cV (vf 0)), ((ed 4), cV (vf 1)), ((ed 5), cV (vf 2)), ((ed 6), cV (vf 3)), (a_10, .inl (g.2.1, 10, .inl (upd (upd (upd (upd (upd (upd (upd (upd (fun _ => 0) 0 ((vf 1) 0)) 1 ((vf 1) 1)) 2 ((vf 1) 2)) 3 ((vf 1) 3)) 4 ((vf 1) 4)) 5 ((vf 1) 6)) 6 ((vf 1) 7)) 7 ((vf 1) 8))))] rfl (by decide) (vpc rfl) rfl dX1_ofVoice_74 ?_
      refine g_dup B dX1_ofVoice_75 rfl ?_
      refine g_bipush (v := 8) B dX1_ofVoice_76 kb_8 ?_
      refine g_aload_n B 3 0 dX1_ofVoice_78 rfl rfl ?_
      refine g_getN (C := RX5) (T := TX5) (N := 11) B 4 5 9 (.int ((vf 1) 9)) in_X5 rfl q315 rfl (Nat.le_of_ble_eq_true rfl) (fun _ h9 => h9) rfl dX1_ofVoice_79 ?_
      refine g_iast B 8 8 [((ad 0), cM ad (ed 0) mi lo su), ((ed 0), cE (ed 1) (ed 7) (ad 0) en), ((ed 1), cA (ed 2) al4), ((ed 2), .inl (g.2.2.1, 10, .inr (.inr (.inr (.inr (vq ed)))))), ((ed 3), cV (vf 0)), ((ed 4), cV (vf 1)), ((ed 5), cV (vf 2)), ((ed 6), cV (vf 3)), (a_10, .inl (g.2.1, 10, .inl (upd (upd (upd (upd (upd (upd (upd (upd (upd (fun _ => 0) 0 ((vf 1) 0)) 1 ((vf 1) 1)) 2 ((vf 1) 2)) 3 ((vf 1) 3)) 4 ((vf 1) 4)) 5 ((vf 1) 6)) 6 ((vf 1) 7)) 7 ((vf 1) 8)) 8 ((vf 1) 9))))] rfl (by decide) (vpc rfl) rfl dX1_ofVoice_82 ?_
      refine g_dup B dX1_ofVoice_83 rfl ?_
      refine g_bipush (v := 9) B dX1_ofVoice_84 kb_9 ?_
      refine g_aload_n B 3 0 dX1_ofVoice_86 rfl rfl ?_
      refine g_getN (C := RX5) (T := TX5) (N := 11) B 4 5 10 (.int ((vf 1) 10)) in_X5 rfl q318 rfl (Nat.le_of_ble_eq_true rfl) (fun _ h9 => h9) rfl dX1_ofVoice_87 ?_
      refine g_iast B 8 9 [((ad 0), cM ad (ed 0) mi lo su), ((ed 0), cE (ed 1) (ed 7) (ad 0) en), ((ed 1), cA (ed 2) al4), ((ed 2), .inl (g.2.2.1, 10, .inr (.inr (.inr (.inr (vq ed)))))), ((ed 3), cV (vf 0)), ((ed 4), cV (vf 1)), ((ed 5), cV (vf 2)), ((ed 6), cV (vf 3)), (a_10, .inl (g.2.1, 10, .inl (upd (upd (upd (upd (upd (upd (upd (upd (upd (upd (fun _ => 0) 0 ((vf 1) 0)) 1 ((vf 1) 1)) 2 ((vf 1) 2)) 3 ((vf 1) 3)) 4 ((vf 1) 4)) 5 ((vf 1) 6)) 6 ((vf 1) 7)) 7 ((vf 1) 8)) 8 ((vf 1) 9)) 9 ((vf 1) 10))))] rfl (by decide) (vpc rfl) rfl dX1_ofVoice_90 ?_
      refine g_astore B [(4, .ref a_10), (3, .ref (ed 4)), (0, .ref (ad 0)), (1, .int 1), (2, .int wh)] dX1_ofVoice_91 (Nat.le_of_ble_eq_true rfl) rfl ?_
      refine g_aload B 0 dX1_ofVoice_93 rfl ?_
      refine g_iload_n B 2 4 dX1_ofVoice_95 rfl rfl ?_
      refine g_iald B 8 wh.toNatClampNeg rfl rfl (fr_in kr_9 (by decide)) dX1_ofVoice_96 ?_
      refine g_topi (fun x_11 ex_11 => ?_)
      subst ex_11
      exact g_xiret B hr dX1_ofVoice_97 (Nat.le_of_ble_eq_true rfl) (Nat.le_of_ble_eq_true rfl) () ⟨(by first | (simp only [k_ofv, if_pos b_1, te_3, if_pos kr_9]; done) | (simp only [k_ofv, if_pos b_1, te_3, if_pos kr_9]; rfl) | rfl), (by first | (simp only [if_pos b_1, te_3, if_pos kr_9]; done) | (simp only [if_pos b_1, te_3, if_pos kr_9]; rfl) | rfl)⟩ [0, 1, 2, 3, 4, 5, 6, 7] rfl rfl
    · skip
      replace e_3 : i = 2 := e_3
      have te_3 : i.toNatClampNeg = 2 := by rw [e_3]; decide
      refine g_lvq (lv' := [(0, .ref (ad 0)), (1, .int 2), (2, .int wh)]) (by rw [e_3]) ?_
      refine g_aload_n B 0 0 dX1_ofVoice_0 rfl rfl ?_
      refine g_iload_n B 1 1 dX1_ofVoice_1 rfl rfl ?_
      refine g_cuV_q (C := RX1) (T := TX1) (N := 17) (As := [.int 2]) B (m_X1_voice l hst g ad ed mi lo su en 2 2 (by decide) (by decide) (vf 2)) 0 0 rfl rfl [0, 1, 2, 3, 6] [] (lw_V q665 q667 qs12 q26 q668) nvX1_voice rfl rfl rfl rfl (Nat.le_of_ble_eq_true rfl) dX1_ofVoice_2 ⟨Nat.le_of_ble_eq_true rfl, Nat.le_of_ble_eq_true rfl⟩ ⟨Nat.le_of_ble_eq_true rfl, Nat.le_of_ble_eq_true rfl⟩ (fun r_12 ur_12 hr_12 => ?_)
      obtain rfl : some (ed 5) = r_12 := (hr_12).symm
      refine g_eqs (st' := [.ref (ed 5)]) rfl ?_
      refine g_astore_n B 3 [(3, .ref (ed 5)), (0, .ref (ad 0)), (1, .int 2), (2, .int wh)] dX1_ofVoice_5 rfl (Nat.le_of_ble_eq_true rfl) rfl ?_
      refine g_iconst (v := 0) B dX1_ofVoice_6 kc_0 ?_
      refine g_bipush (v := 9) B dX1_ofVoice_7 kb_9 ?_
      refine g_iload_n B 2 3 dX1_ofVoice_9 rfl rfl ?_
      refine g_xuS_v (As := [.int 0, .int 9, .int wh]) B (m_X1_requireFrom l hst g 0 9 wh) [] [] (lw_S q580 q581 q26 q582) nsX1_requireFrom rfl rfl rfl rfl (Nat.le_of_ble_eq_true rfl) dX1_ofVoice_10 ⟨Nat.le_of_ble_eq_true rfl, Nat.le_of_ble_eq_true rfl⟩ ⟨Nat.le_of_ble_eq_true rfl, Nat.le_of_ble_eq_true rfl⟩ (fun E hE => ?_) (fun ur_13 hr_13 => ?_)
      · skip
        have hK9 : ¬ (fr_k 0 9 wh) = 0 := by rw [hE.2]; decide
        exact g_xout B hT hA9 (Nat.le_of_ble_eq_true rfl) (Nat.le_of_ble_eq_true rfl) (Or.inr ⟨hE.1, (by first | exact hE.2 | (simp only [k_ofv, if_pos b_1, te_3, if_neg hK9]; done) | (simp only [k_ofv, if_pos b_1, te_3, if_neg hK9]; rfl) | rfl)⟩) [0, 1, 2, 3, 4, 5, 6, 7] rfl rfl
      have kr_13 : (fr_k 0 9 wh) = 0 := hr_13
      refine g_bipush (v := 10) B dX1_ofVoice_13 kb_10 ?_
      refine g_newa B 10 q83 (by decide) (by decide) (Nat.le_of_ble_eq_true rfl) (Nat.le_of_ble_eq_true rfl) (Nat.le_of_ble_eq_true rfl) dX1_ofVoice_15 (fun a_14 => ?_)
      refine g_dup B dX1_ofVoice_17 rfl ?_
      refine g_iconst (v := 0) B dX1_ofVoice_18 kc_0 ?_
      refine g_aload_n B 3 0 dX1_ofVoice_19 rfl rfl ?_
      refine g_getN (C := RX5) (T := TX5) (N := 11) B 4 6 0 (.int ((vf 2) 0)) in_X5 rfl q292 rfl (Nat.le_of_ble_eq_true rfl) (fun _ h9 => h9) rfl dX1_ofVoice_20 ?_
      refine g_iast B 8 0 [((ad 0), cM ad (ed 0) mi lo su), ((ed 0), cE (ed 1) (ed 7) (ad 0) en), ((ed 1), cA (ed 2) al4), ((ed 2), .inl (g.2.2.1, 10, .inr (.inr (.inr (.inr (vq ed)))))), ((ed 3), cV (vf 0)), ((ed 4), cV (vf 1)), ((ed 5), cV (vf 2)), ((ed 6), cV (vf 3)), (a_14, .inl (g.2.1, 10, .inl (upd (fun _ => 0) 0 ((vf 2) 0))))] rfl (by decide) (vpc rfl) rfl dX1_ofVoice_23 ?_
      refine g_dup B dX1_ofVoice_24 rfl ?_
      refine g_iconst (v := 1) B dX1_ofVoice_25 kc_1 ?_
      refine g_aload_n B 3 0 dX1_ofVoice_26 rfl rfl ?_
      refine g_getN (C := RX5) (T := TX5) (N := 11) B 4 6 1 (.int ((vf 2) 1)) in_X5 rfl q295 rfl (Nat.le_of_ble_eq_true rfl) (fun _ h9 => h9) rfl dX1_ofVoice_27 ?_
      refine g_iast B 8 1 [((ad 0), cM ad (ed 0) mi lo su), ((ed 0), cE (ed 1) (ed 7) (ad 0) en), ((ed 1), cA (ed 2) al4), ((ed 2), .inl (g.2.2.1, 10, .inr (.inr (.inr (.inr (vq ed)))))), ((ed 3), cV (vf 0)), ((ed 4), cV (vf 1)), ((ed 5), cV (vf 2)), ((ed 6), cV (vf 3)), (a_14, .inl (g.2.1, 10, .inl (upd (upd (fun _ => 0) 0 ((vf 2) 0)) 1 ((vf 2) 1))))] rfl (by decide) (vpc rfl) rfl dX1_ofVoice_30 ?_
      refine g_dup B dX1_ofVoice_31 rfl ?_
      refine g_iconst (v := 2) B dX1_ofVoice_32 kc_2 ?_
      refine g_aload_n B 3 0 dX1_ofVoice_33 rfl rfl ?_
      refine g_getN (C := RX5) (T := TX5) (N := 11) B 4 6 2 (.int ((vf 2) 2)) in_X5 rfl q298 rfl (Nat.le_of_ble_eq_true rfl) (fun _ h9 => h9) rfl dX1_ofVoice_34 ?_
      refine g_iast B 8 2 [((ad 0), cM ad (ed 0) mi lo su), ((ed 0), cE (ed 1) (ed 7) (ad 0) en), ((ed 1), cA (ed 2) al4), ((ed 2), .inl (g.2.2.1, 10, .inr (.inr (.inr (.inr (vq ed)))))), ((ed 3), cV (vf 0)), ((ed 4), cV (vf 1)), ((ed 5), cV (vf 2)), ((ed 6), cV (vf 3)), (a_14, .inl (g.2.1, 10, .inl (upd (upd (upd (fun _ => 0) 0 ((vf 2) 0)) 1 ((vf 2) 1)) 2 ((vf 2) 2))))] rfl (by decide) (vpc rfl) rfl dX1_ofVoice_37 ?_
      refine g_dup B dX1_ofVoice_38 rfl ?_
      refine g_iconst (v := 3) B dX1_ofVoice_39 kc_3 ?_
      refine g_aload_n B 3 0 dX1_ofVoice_40 rfl rfl ?_
      refine g_getN (C := RX5) (T := TX5) (N := 11) B 4 6 3 (.int ((vf 2) 3)) in_X5 rfl q301 rfl (Nat.le_of_ble_eq_true rfl) (fun _ h9 => h9) rfl dX1_ofVoice_41 ?_
      refine g_iast B 8 3 [((ad 0), cM ad (ed 0) mi lo su), ((ed 0), cE (ed 1) (ed 7) (ad 0) en), ((ed 1), cA (ed 2) al4), ((ed 2), .inl (g.2.2.1, 10, .inr (.inr (.inr (.inr (vq ed)))))), ((ed 3), cV (vf 0)), ((ed 4), cV (vf 1)), ((ed 5), cV (vf 2)), ((ed 6), cV (vf 3)), (a_14, .inl (g.2.1, 10, .inl (upd (upd (upd (upd (fun _ => 0) 0 ((vf 2) 0)) 1 ((vf 2) 1)) 2 ((vf 2) 2)) 3 ((vf 2) 3))))] rfl (by decide) (vpc rfl) rfl dX1_ofVoice_44 ?_
      refine g_dup B dX1_ofVoice_45 rfl ?_
      refine g_iconst (v := 4) B dX1_ofVoice_46 kc_4 ?_
      refine g_aload_n B 3 0 dX1_ofVoice_47 rfl rfl ?_
      refine g_getN (C := RX5) (T := TX5) (N := 11) B 4 6 4 (.int ((vf 2) 4)) in_X5 rfl q303 rfl (Nat.le_of_ble_eq_true rfl) (fun _ h9 => h9) rfl dX1_ofVoice_48 ?_
      refine g_iast B 8 4 [((ad 0), cM ad (ed 0) mi lo su), ((ed 0), cE (ed 1) (ed 7) (ad 0) en), ((ed 1), cA (ed 2) al4), ((ed 2), .inl (g.2.2.1, 10, .inr (.inr (.inr (.inr (vq ed)))))), ((ed 3), cV (vf 0)), ((ed 4), cV (vf 1)), ((ed 5), cV (vf 2)), ((ed 6), cV (vf 3)), (a_14, .inl (g.2.1, 10, .inl (upd (upd (upd (upd (upd (fun _ => 0) 0 ((vf 2) 0)) 1 ((vf 2) 1)) 2 ((vf 2) 2)) 3 ((vf 2) 3)) 4 ((vf 2) 4))))] rfl (by decide) (vpc rfl) rfl dX1_ofVoice_51 ?_
      refine g_dup B dX1_ofVoice_52 rfl ?_
      refine g_iconst (v := 5) B dX1_ofVoice_53 kc_5 ?_
      refine g_aload_n B 3 0 dX1_ofVoice_54 rfl rfl ?_
      refine g_getN (C := RX5) (T := TX5) (N := 11) B 4 6 6 (.int ((vf 2) 6)) in_X5 rfl q308 rfl (Nat.le_of_ble_eq_true rfl) (fun _ h9 => h9) rfl dX1_ofVoice_55 ?_
      refine g_iast B 8 5 [((ad 0), cM ad (ed 0) mi lo su), ((ed 0), cE (ed 1) (ed 7) (ad 0) en), ((ed 1), cA (ed 2) al4), ((ed 2), .inl (g.2.2.1, 10, .inr (.inr (.inr (.inr (vq ed)))))), ((ed 3), cV (vf 0)), ((ed 4), cV (vf 1)), ((ed 5), cV (vf 2)), ((ed 6), cV (vf 3)), (a_14, .inl (g.2.1, 10, .inl (upd (upd (upd (upd (upd (upd (fun _ => 0) 0 ((vf 2) 0)) 1 ((vf 2) 1)) 2 ((vf 2) 2)) 3 ((vf 2) 3)) 4 ((vf 2) 4)) 5 ((vf 2) 6))))] rfl (by decide) (vpc rfl) rfl dX1_ofVoice_58 ?_
      refine g_dup B dX1_ofVoice_59 rfl ?_
      refine g_bipush (v := 6) B dX1_ofVoice_60 kb_6 ?_
      refine g_aload_n B 3 0 dX1_ofVoice_62 rfl rfl ?_
      refine g_getN (C := RX5) (T := TX5) (N := 11) B 4 6 7 (.int ((vf 2) 7)) in_X5 rfl q311 rfl (Nat.le_of_ble_eq_true rfl) (fun _ h9 => h9) rfl dX1_ofVoice_63 ?_
      refine g_iast B 8 6 [((ad 0), cM ad (ed 0) mi lo su), ((ed 0), cE (ed 1) (ed 7) (ad 0) en), ((ed 1), cA (ed 2) al4), ((ed 2), .inl (g.2.2.1, 10, .inr (.inr (.inr (.inr (vq ed)))))), ((ed 3), cV (vf 0)), ((ed 4), cV (vf 1)), ((ed 5), cV (vf 2)), ((ed 6), cV (vf 3)), (a_14, .inl (g.2.1, 10, .inl (upd (upd (upd (upd (upd (upd (upd (fun _ => 0) 0 ((vf 2) 0)) 1 ((vf 2) 1)) 2 ((vf 2) 2)) 3 ((vf 2) 3)) 4 ((vf 2) 4)) 5 ((vf 2) 6)) 6 ((vf 2) 7))))] rfl (by decide) (vpc rfl) rfl dX1_ofVoice_66 ?_
      refine g_dup B dX1_ofVoice_67 rfl ?_
      refine g_bipush (v := 7) B dX1_ofVoice_68 kb_7 ?_
      refine g_aload_n B 3 0 dX1_ofVoice_70 rfl rfl ?_
      refine g_getN (C := RX5) (T := TX5) (N := 11) B 4 6 8 (.int ((vf 2) 8)) in_X5 rfl q313 rfl (Nat.le_of_ble_eq_true rfl) (fun _ h9 => h9) rfl dX1_ofVoice_71 ?_
      refine g_iast B 8 7 [((ad 0), cM ad (ed 0) mi lo su), ((ed 0), cE (ed 1) (ed 7) (ad 0) en), ((ed 1), cA (ed 2) al4), ((ed 2), .inl (g.2.2.1, 10, .inr (.inr (.inr (.inr (vq ed)))))), ((ed 3), cV (vf 0)), ((ed 4), cV (vf 1)), ((ed 5), cV (vf 2)), ((ed 6), cV (vf 3)), (a_14, .inl (g.2.1, 10, .inl (upd (upd (upd (upd (upd (upd (upd (upd (fun _ => 0) 0 ((vf 2) 0)) 1 ((vf 2) 1)) 2 ((vf 2) 2)) 3 ((vf 2) 3)) 4 ((vf 2) 4)) 5 ((vf 2) 6)) 6 ((vf 2) 7)) 7 ((vf 2) 8))))] rfl (by decide) (vpc rfl) rfl dX1_ofVoice_74 ?_
      refine g_dup B dX1_ofVoice_75 rfl ?_
      refine g_bipush (v := 8) B dX1_ofVoice_76 kb_8 ?_
      refine g_aload_n B 3 0 dX1_ofVoice_78 rfl rfl ?_
      refine g_getN (C := RX5) (T := TX5) (N := 11) B 4 6 9 (.int ((vf 2) 9)) in_X5 rfl q315 rfl (Nat.le_of_ble_eq_true rfl) (fun _ h9 => h9) rfl dX1_ofVoice_79 ?_
      refine g_iast B 8 8 [((ad 0), cM ad (ed 0) mi lo su), ((ed 0), cE (ed 1) (ed 7) (ad 0) en), ((ed 1), cA (ed 2) al4), ((ed 2), .inl (g.2.2.1, 10, .inr (.inr (.inr (.inr (vq ed)))))), ((ed 3), cV (vf 0)), ((ed 4), cV (vf 1)), ((ed 5), cV (vf 2)), ((ed 6), cV (vf 3)), (a_14, .inl (g.2.1, 10, .inl (upd (upd (upd (upd (upd (upd (upd (upd (upd (fun _ => 0) 0 ((vf 2) 0)) 1 ((vf 2) 1)) 2 ((vf 2) 2)) 3 ((vf 2) 3)) 4 ((vf 2) 4)) 5 ((vf 2) 6)) 6 ((vf 2) 7)) 7 ((vf 2) 8)) 8 ((vf 2) 9))))] rfl (by decide) (vpc rfl) rfl dX1_ofVoice_82 ?_
      refine g_dup B dX1_ofVoice_83 rfl ?_
      refine g_bipush (v := 9) B dX1_ofVoice_84 kb_9 ?_
      refine g_aload_n B 3 0 dX1_ofVoice_86 rfl rfl ?_
      refine g_getN (C := RX5) (T := TX5) (N := 11) B 4 6 10 (.int ((vf 2) 10)) in_X5 rfl q318 rfl (Nat.le_of_ble_eq_true rfl) (fun _ h9 => h9) rfl dX1_ofVoice_87 ?_
      refine g_iast B 8 9 [((ad 0), cM ad (ed 0) mi lo su), ((ed 0), cE (ed 1) (ed 7) (ad 0) en), ((ed 1), cA (ed 2) al4), ((ed 2), .inl (g.2.2.1, 10, .inr (.inr (.inr (.inr (vq ed)))))), ((ed 3), cV (vf 0)), ((ed 4), cV (vf 1)), ((ed 5), cV (vf 2)), ((ed 6), cV (vf 3)), (a_14, .inl (g.2.1, 10, .inl (upd (upd (upd (upd (upd (upd (upd (upd (upd (upd (fun _ => 0) 0 ((vf 2) 0)) 1 ((vf 2) 1)) 2 ((vf 2) 2)) 3 ((vf 2) 3)) 4 ((vf 2) 4)) 5 ((vf 2) 6)) 6 ((vf 2) 7)) 7 ((vf 2) 8)) 8 ((vf 2) 9)) 9 ((vf 2) 10))))] rfl (by decide) (vpc rfl) rfl dX1_ofVoice_90 ?_
      refine g_astore B [(4, .ref a_14), (3, .ref (ed 5)), (0, .ref (ad 0)), (1, .int 2), (2, .int wh)] dX1_ofVoice_91 (Nat.le_of_ble_eq_true rfl) rfl ?_
      refine g_aload B 0 dX1_ofVoice_93 rfl ?_
      refine g_iload_n B 2 4 dX1_ofVoice_95 rfl rfl ?_
      refine g_iald B 8 wh.toNatClampNeg rfl rfl (fr_in kr_13 (by decide)) dX1_ofVoice_96 ?_
      refine g_topi (fun x_15 ex_15 => ?_)
      subst ex_15
      exact g_xiret B hr dX1_ofVoice_97 (Nat.le_of_ble_eq_true rfl) (Nat.le_of_ble_eq_true rfl) () ⟨(by first | (simp only [k_ofv, if_pos b_1, te_3, if_pos kr_13]; done) | (simp only [k_ofv, if_pos b_1, te_3, if_pos kr_13]; rfl) | rfl), (by first | (simp only [if_pos b_1, te_3, if_pos kr_13]; done) | (simp only [if_pos b_1, te_3, if_pos kr_13]; rfl) | rfl)⟩ [0, 1, 2, 3, 4, 5, 6, 7] rfl rfl
    · skip
      replace e_3 : i = 3 := e_3
      have te_3 : i.toNatClampNeg = 3 := by rw [e_3]; decide
      refine g_lvq (lv' := [(0, .ref (ad 0)), (1, .int 3), (2, .int wh)]) (by rw [e_3]) ?_
      refine g_aload_n B 0 0 dX1_ofVoice_0 rfl rfl ?_
      refine g_iload_n B 1 1 dX1_ofVoice_1 rfl rfl ?_
      refine g_cuV_q (C := RX1) (T := TX1) (N := 17) (As := [.int 3]) B (m_X1_voice l hst g ad ed mi lo su en 3 3 (by decide) (by decide) (vf 3)) 0 0 rfl rfl [0, 1, 2, 3, 7] [] (lw_V q665 q667 qs12 q26 q668) nvX1_voice rfl rfl rfl rfl (Nat.le_of_ble_eq_true rfl) dX1_ofVoice_2 ⟨Nat.le_of_ble_eq_true rfl, Nat.le_of_ble_eq_true rfl⟩ ⟨Nat.le_of_ble_eq_true rfl, Nat.le_of_ble_eq_true rfl⟩ (fun r_16 ur_16 hr_16 => ?_)
      obtain rfl : some (ed 6) = r_16 := (hr_16).symm
      refine g_eqs (st' := [.ref (ed 6)]) rfl ?_
      refine g_astore_n B 3 [(3, .ref (ed 6)), (0, .ref (ad 0)), (1, .int 3), (2, .int wh)] dX1_ofVoice_5 rfl (Nat.le_of_ble_eq_true rfl) rfl ?_
      refine g_iconst (v := 0) B dX1_ofVoice_6 kc_0 ?_
      refine g_bipush (v := 9) B dX1_ofVoice_7 kb_9 ?_
      refine g_iload_n B 2 3 dX1_ofVoice_9 rfl rfl ?_
      refine g_xuS_v (As := [.int 0, .int 9, .int wh]) B (m_X1_requireFrom l hst g 0 9 wh) [] [] (lw_S q580 q581 q26 q582) nsX1_requireFrom rfl rfl rfl rfl (Nat.le_of_ble_eq_true rfl) dX1_ofVoice_10 ⟨Nat.le_of_ble_eq_true rfl, Nat.le_of_ble_eq_true rfl⟩ ⟨Nat.le_of_ble_eq_true rfl, Nat.le_of_ble_eq_true rfl⟩ (fun E hE => ?_) (fun ur_17 hr_17 => ?_)
      · skip
        have hK9 : ¬ (fr_k 0 9 wh) = 0 := by rw [hE.2]; decide
        exact g_xout B hT hA9 (Nat.le_of_ble_eq_true rfl) (Nat.le_of_ble_eq_true rfl) (Or.inr ⟨hE.1, (by first | exact hE.2 | (simp only [k_ofv, if_pos b_1, te_3, if_neg hK9]; done) | (simp only [k_ofv, if_pos b_1, te_3, if_neg hK9]; rfl) | rfl)⟩) [0, 1, 2, 3, 4, 5, 6, 7] rfl rfl
      have kr_17 : (fr_k 0 9 wh) = 0 := hr_17
      refine g_bipush (v := 10) B dX1_ofVoice_13 kb_10 ?_
      refine g_newa B 10 q83 (by decide) (by decide) (Nat.le_of_ble_eq_true rfl) (Nat.le_of_ble_eq_true rfl) (Nat.le_of_ble_eq_true rfl) dX1_ofVoice_15 (fun a_18 => ?_)
      refine g_dup B dX1_ofVoice_17 rfl ?_
      refine g_iconst (v := 0) B dX1_ofVoice_18 kc_0 ?_
      refine g_aload_n B 3 0 dX1_ofVoice_19 rfl rfl ?_
      refine g_getN (C := RX5) (T := TX5) (N := 11) B 4 7 0 (.int ((vf 3) 0)) in_X5 rfl q292 rfl (Nat.le_of_ble_eq_true rfl) (fun _ h9 => h9) rfl dX1_ofVoice_20 ?_
      refine g_iast B 8 0 [((ad 0), cM ad (ed 0) mi lo su), ((ed 0), cE (ed 1) (ed 7) (ad 0) en), ((ed 1), cA (ed 2) al4), ((ed 2), .inl (g.2.2.1, 10, .inr (.inr (.inr (.inr (vq ed)))))), ((ed 3), cV (vf 0)), ((ed 4), cV (vf 1)), ((ed 5), cV (vf 2)), ((ed 6), cV (vf 3)), (a_18, .inl (g.2.1, 10, .inl (upd (fun _ => 0) 0 ((vf 3) 0))))] rfl (by decide) (vpc rfl) rfl dX1_ofVoice_23 ?_
      refine g_dup B dX1_ofVoice_24 rfl ?_
      refine g_iconst (v := 1) B dX1_ofVoice_25 kc_1 ?_
      refine g_aload_n B 3 0 dX1_ofVoice_26 rfl rfl ?_
      refine g_getN (C := RX5) (T := TX5) (N := 11) B 4 7 1 (.int ((vf 3) 1)) in_X5 rfl q295 rfl (Nat.le_of_ble_eq_true rfl) (fun _ h9 => h9) rfl dX1_ofVoice_27 ?_
      refine g_iast B 8 1 [((ad 0), cM ad (ed 0) mi lo su), ((ed 0), cE (ed 1) (ed 7) (ad 0) en), ((ed 1), cA (ed 2) al4), ((ed 2), .inl (g.2.2.1, 10, .inr (.inr (.inr (.inr (vq ed)))))), ((ed 3), cV (vf 0)), ((ed 4), cV (vf 1)), ((ed 5), cV (vf 2)), ((ed 6), cV (vf 3)), (a_18, .inl (g.2.1, 10, .inl (upd (upd (fun _ => 0) 0 ((vf 3) 0)) 1 ((vf 3) 1))))] rfl (by decide) (vpc rfl) rfl dX1_ofVoice_30 ?_
      refine g_dup B dX1_ofVoice_31 rfl ?_
      refine g_iconst (v := 2) B dX1_ofVoice_32 kc_2 ?_
      refine g_aload_n B 3 0 dX1_ofVoice_33 rfl rfl ?_
      refine g_getN (C := RX5) (T := TX5) (N := 11) B 4 7 2 (.int ((vf 3) 2)) in_X5 rfl q298 rfl (Nat.le_of_ble_eq_true rfl) (fun _ h9 => h9) rfl dX1_ofVoice_34 ?_
      refine g_iast B 8 2 [((ad 0), cM ad (ed 0) mi lo su), ((ed 0), cE (ed 1) (ed 7) (ad 0) en), ((ed 1), cA (ed 2) al4), ((ed 2), .inl (g.2.2.1, 10, .inr (.inr (.inr (.inr (vq ed)))))), ((ed 3), cV (vf 0)), ((ed 4), cV (vf 1)), ((ed 5), cV (vf 2)), ((ed 6), cV (vf 3)), (a_18, .inl (g.2.1, 10, .inl (upd (upd (upd (fun _ => 0) 0 ((vf 3) 0)) 1 ((vf 3) 1)) 2 ((vf 3) 2))))] rfl (by decide) (vpc rfl) rfl dX1_ofVoice_37 ?_
      refine g_dup B dX1_ofVoice_38 rfl ?_
      refine g_iconst (v := 3) B dX1_ofVoice_39 kc_3 ?_
      refine g_aload_n B 3 0 dX1_ofVoice_40 rfl rfl ?_
      refine g_getN (C := RX5) (T := TX5) (N := 11) B 4 7 3 (.int ((vf 3) 3)) in_X5 rfl q301 rfl (Nat.le_of_ble_eq_true rfl) (fun _ h9 => h9) rfl dX1_ofVoice_41 ?_
      refine g_iast B 8 3 [((ad 0), cM ad (ed 0) mi lo su), ((ed 0), cE (ed 1) (ed 7) (ad 0) en), ((ed 1), cA (ed 2) al4), ((ed 2), .inl (g.2.2.1, 10, .inr (.inr (.inr (.inr (vq ed)))))), ((ed 3), cV (vf 0)), ((ed 4), cV (vf 1)), ((ed 5), cV (vf 2)), ((ed 6), cV (vf 3)), (a_18, .inl (g.2.1, 10, .inl (upd (upd (upd (upd (fun _ => 0) 0 ((vf 3) 0)) 1 ((vf 3) 1)) 2 ((vf 3) 2)) 3 ((vf 3) 3))))] rfl (by decide) (vpc rfl) rfl dX1_ofVoice_44 ?_
      refine g_dup B dX1_ofVoice_45 rfl ?_
      refine g_iconst (v := 4) B dX1_ofVoice_46 kc_4 ?_
      refine g_aload_n B 3 0 dX1_ofVoice_47 rfl rfl ?_
      refine g_getN (C := RX5) (T := TX5) (N := 11) B 4 7 4 (.int ((vf 3) 4)) in_X5 rfl q303 rfl (Nat.le_of_ble_eq_true rfl) (fun _ h9 => h9) rfl dX1_ofVoice_48 ?_
      refine g_iast B 8 4 [((ad 0), cM ad (ed 0) mi lo su), ((ed 0), cE (ed 1) (ed 7) (ad 0) en), ((ed 1), cA (ed 2) al4), ((ed 2), .inl (g.2.2.1, 10, .inr (.inr (.inr (.inr (vq ed)))))), ((ed 3), cV (vf 0)), ((ed 4), cV (vf 1)), ((ed 5), cV (vf 2)), ((ed 6), cV (vf 3)), (a_18, .inl (g.2.1, 10, .inl (upd (upd (upd (upd (upd (fun _ => 0) 0 ((vf 3) 0)) 1 ((vf 3) 1)) 2 ((vf 3) 2)) 3 ((vf 3) 3)) 4 ((vf 3) 4))))] rfl (by decide) (vpc rfl) rfl dX1_ofVoice_51 ?_
      refine g_dup B dX1_ofVoice_52 rfl ?_
      refine g_iconst (v := 5) B dX1_ofVoice_53 kc_5 ?_
      refine g_aload_n B 3 0 dX1_ofVoice_54 rfl rfl ?_
      refine g_getN (C := RX5) (T := TX5) (N := 11) B 4 7 6 (.int ((vf 3) 6)) in_X5 rfl q308 rfl (Nat.le_of_ble_eq_true rfl) (fun _ h9 => h9) rfl dX1_ofVoice_55 ?_
      refine g_iast B 8 5 [((ad 0), cM ad (ed 0) mi lo su), ((ed 0), cE (ed 1) (ed 7) (ad 0) en), ((ed 1), cA (ed 2) al4), ((ed 2), .inl (g.2.2.1, 10, .inr (.inr (.inr (.inr (vq ed)))))), ((ed 3), cV (vf 0)), ((ed 4), cV (vf 1)), ((ed 5), cV (vf 2)), ((ed 6), cV (vf 3)), (a_18, .inl (g.2.1, 10, .inl (upd (upd (upd (upd (upd (upd (fun _ => 0) 0 ((vf 3) 0)) 1 ((vf 3) 1)) 2 ((vf 3) 2)) 3 ((vf 3) 3)) 4 ((vf 3) 4)) 5 ((vf 3) 6))))] rfl (by decide) (vpc rfl) rfl dX1_ofVoice_58 ?_
      refine g_dup B dX1_ofVoice_59 rfl ?_
      refine g_bipush (v := 6) B dX1_ofVoice_60 kb_6 ?_
      refine g_aload_n B 3 0 dX1_ofVoice_62 rfl rfl ?_
      refine g_getN (C := RX5) (T := TX5) (N := 11) B 4 7 7 (.int ((vf 3) 7)) in_X5 rfl q311 rfl (Nat.le_of_ble_eq_true rfl) (fun _ h9 => h9) rfl dX1_ofVoice_63 ?_
      refine g_iast B 8 6 [((ad 0), cM ad (ed 0) mi lo su), ((ed 0), cE (ed 1) (ed 7) (ad 0) en), ((ed 1), cA (ed 2) al4), ((ed 2), .inl (g.2.2.1, 10, .inr (.inr (.inr (.inr (vq ed)))))), ((ed 3), cV (vf 0)), ((ed 4), cV (vf 1)), ((ed 5), cV (vf 2)), ((ed 6), cV (vf 3)), (a_18, .inl (g.2.1, 10, .inl (upd (upd (upd (upd (upd (upd (upd (fun _ => 0) 0 ((vf 3) 0)) 1 ((vf 3) 1)) 2 ((vf 3) 2)) 3 ((vf 3) 3)) 4 ((vf 3) 4)) 5 ((vf 3) 6)) 6 ((vf 3) 7))))] rfl (by decide) (vpc rfl) rfl dX1_ofVoice_66 ?_
      refine g_dup B dX1_ofVoice_67 rfl ?_
      refine g_bipush (v := 7) B dX1_ofVoice_68 kb_7 ?_
      refine g_aload_n B 3 0 dX1_ofVoice_70 rfl rfl ?_
      refine g_getN (C := RX5) (T := TX5) (N := 11) B 4 7 8 (.int ((vf 3) 8)) in_X5 rfl q313 rfl (Nat.le_of_ble_eq_true rfl) (fun _ h9 => h9) rfl dX1_ofVoice_71 ?_
      refine g_iast B 8 7 [((ad 0), cM ad (ed 0) mi lo su), ((ed 0), cE (ed 1) (ed 7) (ad 0) en), ((ed 1), cA (ed 2) al4), ((ed 2), .inl (g.2.2.1, 10, .inr (.inr (.inr (.inr (vq ed)))))), ((ed 3), cV (vf 0)), ((ed 4), cV (vf 1)), ((ed 5), cV (vf 2)), ((ed 6), cV (vf 3)), (a_18, .inl (g.2.1, 10, .inl (upd (upd (upd (upd (upd (upd (upd (upd (fun _ => 0) 0 ((vf 3) 0)) 1 ((vf 3) 1)) 2 ((vf 3) 2)) 3 ((vf 3) 3)) 4 ((vf 3) 4)) 5 ((vf 3) 6)) 6 ((vf 3) 7)) 7 ((vf 3) 8))))] rfl (by decide) (vpc rfl) rfl dX1_ofVoice_74 ?_
      refine g_dup B dX1_ofVoice_75 rfl ?_
      refine g_bipush (v := 8) B dX1_ofVoice_76 kb_8 ?_
      refine g_aload_n B 3 0 dX1_ofVoice_78 rfl rfl ?_
      refine g_getN (C := RX5) (T := TX5) (N := 11) B 4 7 9 (.int ((vf 3) 9)) in_X5 rfl q315 rfl (Nat.le_of_ble_eq_true rfl) (fun _ h9 => h9) rfl dX1_ofVoice_79 ?_
      refine g_iast B 8 8 [((ad 0), cM ad (ed 0) mi lo su), ((ed 0), cE (ed 1) (ed 7) (ad 0) en), ((ed 1), cA (ed 2) al4), ((ed 2), .inl (g.2.2.1, 10, .inr (.inr (.inr (.inr (vq ed)))))), ((ed 3), cV (vf 0)), ((ed 4), cV (vf 1)), ((ed 5), cV (vf 2)), ((ed 6), cV (vf 3)), (a_18, .inl (g.2.1, 10, .inl (upd (upd (upd (upd (upd (upd (upd (upd (upd (fun _ => 0) 0 ((vf 3) 0)) 1 ((vf 3) 1)) 2 ((vf 3) 2)) 3 ((vf 3) 3)) 4 ((vf 3) 4)) 5 ((vf 3) 6)) 6 ((vf 3) 7)) 7 ((vf 3) 8)) 8 ((vf 3) 9))))] rfl (by decide) (vpc rfl) rfl dX1_ofVoice_82 ?_
      refine g_dup B dX1_ofVoice_83 rfl ?_
      refine g_bipush (v := 9) B dX1_ofVoice_84 kb_9 ?_
      refine g_aload_n B 3 0 dX1_ofVoice_86 rfl rfl ?_
      refine g_getN (C := RX5) (T := TX5) (N := 11) B 4 7 10 (.int ((vf 3) 10)) in_X5 rfl q318 rfl (Nat.le_of_ble_eq_true rfl) (fun _ h9 => h9) rfl dX1_ofVoice_87 ?_
      refine g_iast B 8 9 [((ad 0), cM ad (ed 0) mi lo su), ((ed 0), cE (ed 1) (ed 7) (ad 0) en), ((ed 1), cA (ed 2) al4), ((ed 2), .inl (g.2.2.1, 10, .inr (.inr (.inr (.inr (vq ed)))))), ((ed 3), cV (vf 0)), ((ed 4), cV (vf 1)), ((ed 5), cV (vf 2)), ((ed 6), cV (vf 3)), (a_18, .inl (g.2.1, 10, .inl (upd (upd (upd (upd (upd (upd (upd (upd (upd (upd (fun _ => 0) 0 ((vf 3) 0)) 1 ((vf 3) 1)) 2 ((vf 3) 2)) 3 ((vf 3) 3)) 4 ((vf 3) 4)) 5 ((vf 3) 6)) 6 ((vf 3) 7)) 7 ((vf 3) 8)) 8 ((vf 3) 9)) 9 ((vf 3) 10))))] rfl (by decide) (vpc rfl) rfl dX1_ofVoice_90 ?_
      refine g_astore B [(4, .ref a_18), (3, .ref (ed 6)), (0, .ref (ad 0)), (1, .int 3), (2, .int wh)] dX1_ofVoice_91 (Nat.le_of_ble_eq_true rfl) rfl ?_
      refine g_aload B 0 dX1_ofVoice_93 rfl ?_
      refine g_iload_n B 2 4 dX1_ofVoice_95 rfl rfl ?_
      refine g_iald B 8 wh.toNatClampNeg rfl rfl (fr_in kr_17 (by decide)) dX1_ofVoice_96 ?_
      refine g_topi (fun x_19 ex_19 => ?_)
      subst ex_19
      exact g_xiret B hr dX1_ofVoice_97 (Nat.le_of_ble_eq_true rfl) (Nat.le_of_ble_eq_true rfl) () ⟨(by first | (simp only [k_ofv, if_pos b_1, te_3, if_pos kr_17]; done) | (simp only [k_ofv, if_pos b_1, te_3, if_pos kr_17]; rfl) | rfl), (by first | (simp only [if_pos b_1, te_3, if_pos kr_17]; done) | (simp only [if_pos b_1, te_3, if_pos kr_17]; rfl) | rfl)⟩ [0, 1, 2, 3, 4, 5, 6, 7] rfl rfl
  · skip
    refine g_aload_n B 0 0 dX1_ofVoice_0 rfl rfl ?_
    refine g_iload_n B 1 1 dX1_ofVoice_1 rfl rfl ?_
    refine g_xuV_q (C := RX1) (T := TX1) (N := 17) (As := [.int i]) B (m_X1_voice_b l hst g ad (ed 0) mi lo su i b_1) 0 0 rfl rfl [0] [] (lw_V q665 q667 qs12 q26 q668) nvX1_voice rfl rfl rfl rfl (Nat.le_of_ble_eq_true rfl) dX1_ofVoice_2 ⟨Nat.le_of_ble_eq_true rfl, Nat.le_of_ble_eq_true rfl⟩ ⟨Nat.le_of_ble_eq_true rfl, Nat.le_of_ble_eq_true rfl⟩ (fun E hE => ?_) (fun r_20 ur_20 hr_20 => ?_)
    · skip
      have hK9 : ¬ (ix_k i 4) = 0 := by rw [hE.2]; decide
      exact g_xout B hT hA9 (Nat.le_of_ble_eq_true rfl) (Nat.le_of_ble_eq_true rfl) (Or.inl ⟨hE.1, (by first | exact hE.2 | (simp only [k_ofv, if_neg b_1, if_neg hK9]; done) | (simp only [k_ofv, if_neg b_1, if_neg hK9]; rfl) | rfl)⟩) [0, 1, 2, 3, 4, 5, 6, 7] rfl rfl
    have kr_20 : (ix_k i 4) = 0 := hr_20.1
    replace hr_20 := hr_20.2
    exact absurd kr_20 b_1

set_option maxHeartbeats 4000000 in
set_option maxRecDepth 100000 in
theorem m_X1_ofStep (l : Launch) (hst : l.stackTraces = false) (g : gG) (ad : Nat → Nat) (e0 : Nat) (mi : Nat → Int32) (lo su : Int64) (tr : Nat → Nat → Int32) (tw : Nat → Nat → Nat → Int32) (t j wh : Int32) : gXi l yX1_ofStep cX1_ofStep 6 .int 8 131 4 21 g [((ad 0), cM ad e0 mi lo su), ((ad 8), cA (ad 9) al3), ((ad 9), .inl (g.2.2.1, 10, .inr (.inr (.inr (.inr (tq ad)))))), ((ad 10), cT (ad 13) (ad 16) (ad 19) (tr 0)), ((ad 11), cT (ad 14) (ad 17) (ad 20) (tr 1)), ((ad 12), cT (ad 15) (ad 18) (ad 21) (tr 2)), ((ad 13), .inl (g.2.1, 8, .inl (tw 0 0))), ((ad 14), .inl (g.2.1, 8, .inl (tw 1 0))), ((ad 15), .inl (g.2.1, 8, .inl (tw 2 0))), ((ad 16), .inl (g.2.1, 8, .inl (tw 0 1))), ((ad 17), .inl (g.2.1, 8, .inl (tw 1 1))), ((ad 18), .inl (g.2.1, 8, .inl (tw 2 1))), ((ad 19), .inl (g.2.1, 8, .inl (tw 0 2))), ((ad 20), .inl (g.2.1, 8, .inl (tw 1 2))), ((ad 21), .inl (g.2.1, 8, .inl (tw 2 2)))] [.ref (ad 0), .int t, .int j, .int wh] (fun (r : Int32) (_ : Unit) => (k_ofs t j wh) = 0 ∧ r = p_ts tw t.toNatClampNeg j.toNatClampNeg wh.toNatClampNeg) (fun _ : Unit => [((ad 0), cM ad e0 mi lo su), ((ad 8), cA (ad 9) al3), ((ad 9), .inl (g.2.2.1, 10, .inr (.inr (.inr (.inr (tq ad)))))), ((ad 10), cT (ad 13) (ad 16) (ad 19) (tr 0)), ((ad 11), cT (ad 14) (ad 17) (ad 20) (tr 1)), ((ad 12), cT (ad 15) (ad 18) (ad 21) (tr 2)), ((ad 13), .inl (g.2.1, 8, .inl (tw 0 0))), ((ad 14), .inl (g.2.1, 8, .inl (tw 1 0))), ((ad 15), .inl (g.2.1, 8, .inl (tw 2 0))), ((ad 16), .inl (g.2.1, 8, .inl (tw 0 1))), ((ad 17), .inl (g.2.1, 8, .inl (tw 1 1))), ((ad 18), .inl (g.2.1, 8, .inl (tw 2 1))), ((ad 19), .inl (g.2.1, 8, .inl (tw 0 2))), ((ad 20), .inl (g.2.1, 8, .inl (tw 1 2))), ((ad 21), .inl (g.2.1, 8, .inl (tw 2 2)))]) (fun E : String => (E = eIO ∧ (k_ofs t j wh) = 1) ∨ (E = eIA ∧ (k_ofs t j wh) = 2)) := by
  intro sz
  refine g_xent (by decide) hst [(0, .ref (ad 0)), (1, .int t), (2, .int j), (3, .int wh)] (Nat.le_of_ble_eq_true rfl) rfl ?_
  intro p e s m below meth c B hr hnm hsz hT
  have B : gB p l s m ([.ref (ad 0), .int t, .int j, .int wh] : List Value).toArray meth c RX1 cX1_ofStep 6 g (va_A [((ad 0), cM ad e0 mi lo su), ((ad 8), cA (ad 9) al3), ((ad 9), .inl (g.2.2.1, 10, .inr (.inr (.inr (.inr (tq ad)))))), ((ad 10), cT (ad 13) (ad 16) (ad 19) (tr 0)), ((ad 11), cT (ad 14) (ad 17) (ad 20) (tr 1)), ((ad 12), cT (ad 15) (ad 18) (ad 21) (tr 2)), ((ad 13), .inl (g.2.1, 8, .inl (tw 0 0))), ((ad 14), .inl (g.2.1, 8, .inl (tw 1 0))), ((ad 15), .inl (g.2.1, 8, .inl (tw 2 0))), ((ad 16), .inl (g.2.1, 8, .inl (tw 0 1))), ((ad 17), .inl (g.2.1, 8, .inl (tw 1 1))), ((ad 18), .inl (g.2.1, 8, .inl (tw 2 1))), ((ad 19), .inl (g.2.1, 8, .inl (tw 0 2))), ((ad 20), .inl (g.2.1, 8, .inl (tw 1 2))), ((ad 21), .inl (g.2.1, 8, .inl (tw 2 2)))] sz) := B
  have hA9 : (va_A [((ad 0), cM ad e0 mi lo su), ((ad 8), cA (ad 9) al3), ((ad 9), .inl (g.2.2.1, 10, .inr (.inr (.inr (.inr (tq ad)))))), ((ad 10), cT (ad 13) (ad 16) (ad 19) (tr 0)), ((ad 11), cT (ad 14) (ad 17) (ad 20) (tr 1)), ((ad 12), cT (ad 15) (ad 18) (ad 21) (tr 2)), ((ad 13), .inl (g.2.1, 8, .inl (tw 0 0))), ((ad 14), .inl (g.2.1, 8, .inl (tw 1 0))), ((ad 15), .inl (g.2.1, 8, .inl (tw 2 0))), ((ad 16), .inl (g.2.1, 8, .inl (tw 0 1))), ((ad 17), .inl (g.2.1, 8, .inl (tw 1 1))), ((ad 18), .inl (g.2.1, 8, .inl (tw 2 1))), ((ad 19), .inl (g.2.1, 8, .inl (tw 0 2))), ((ad 20), .inl (g.2.1, 8, .inl (tw 1 2))), ((ad 21), .inl (g.2.1, 8, .inl (tw 2 2)))] sz) = va_A [((ad 0), cM ad e0 mi lo su), ((ad 8), cA (ad 9) al3), ((ad 9), .inl (g.2.2.1, 10, .inr (.inr (.inr (.inr (tq ad)))))), ((ad 10), cT (ad 13) (ad 16) (ad 19) (tr 0)), ((ad 11), cT (ad 14) (ad 17) (ad 20) (tr 1)), ((ad 12), cT (ad 15) (ad 18) (ad 21) (tr 2)), ((ad 13), .inl (g.2.1, 8, .inl (tw 0 0))), ((ad 14), .inl (g.2.1, 8, .inl (tw 1 0))), ((ad 15), .inl (g.2.1, 8, .inl (tw 2 0))), ((ad 16), .inl (g.2.1, 8, .inl (tw 0 1))), ((ad 17), .inl (g.2.1, 8, .inl (tw 1 1))), ((ad 18), .inl (g.2.1, 8, .inl (tw 2 1))), ((ad 19), .inl (g.2.1, 8, .inl (tw 0 2))), ((ad 20), .inl (g.2.1, 8, .inl (tw 1 2))), ((ad 21), .inl (g.2.1, 8, .inl (tw 2 2)))] s.heap.size := by rw [hsz]
  subst hsz
  by_cases b_1 : ix_k t 3 = 0
  · skip
    obtain ⟨q_2, hq_2, e_3⟩ := ix_nat (N := 3) b_1 (by decide) (by decide)
    rcases (show q_2 = 0 ∨ q_2 = 1 ∨ q_2 = 2 by omega) with rfl | rfl | rfl
    · skip
      replace e_3 : t = 0 := e_3
      have te_3 : t.toNatClampNeg = 0 := by rw [e_3]; decide
      refine g_lvq (lv' := [(0, .ref (ad 0)), (1, .int 0), (2, .int j), (3, .int wh)]) (by rw [e_3]) ?_
      refine g_aload_n B 0 0 dX1_ofStep_0 rfl rfl ?_
      refine g_iload_n B 1 1 dX1_ofStep_1 rfl rfl ?_
      refine g_cuV_q (C := RX1) (T := TX1) (N := 17) (As := [.int 0]) B (m_X1_track l hst g ad e0 mi lo su 0 0 (by decide) (by decide) (tr 0)) 0 0 rfl rfl [0, 1, 2, 3] [] (lw_V q691 q693 qs13 q26 q694) nvX1_track rfl rfl rfl rfl (Nat.le_of_ble_eq_true rfl) dX1_ofStep_2 ⟨Nat.le_of_ble_eq_true rfl, Nat.le_of_ble_eq_true rfl⟩ ⟨Nat.le_of_ble_eq_true rfl, Nat.le_of_ble_eq_true rfl⟩ (fun r_4 ur_4 hr_4 => ?_)
      obtain rfl : some (ad 10) = r_4 := (hr_4).symm
      refine g_eqs (st' := [.ref (ad 10)]) rfl ?_
      refine g_astore B [(4, .ref (ad 10)), (0, .ref (ad 0)), (1, .int 0), (2, .int j), (3, .int wh)] dX1_ofStep_5 (Nat.le_of_ble_eq_true rfl) rfl ?_
      refine g_iload_n B 2 3 dX1_ofStep_7 rfl rfl ?_
      refine g_bipush (v := 8) B dX1_ofStep_8 kb_8 ?_
      refine g_xuS_v (As := [.int j, .int 8]) B (m_X1_requireIndex l hst g j 8) [] [] (lw_S q669 q670 q26 q671) nsX1_requireIndex rfl rfl rfl rfl (Nat.le_of_ble_eq_true rfl) dX1_ofStep_10 ⟨Nat.le_of_ble_eq_true rfl, Nat.le_of_ble_eq_true rfl⟩ ⟨Nat.le_of_ble_eq_true rfl, Nat.le_of_ble_eq_true rfl⟩ (fun E hE => ?_) (fun ur_5 hr_5 => ?_)
      · skip
        have hK9 : ¬ (ix_k j 8) = 0 := by rw [hE.2]; decide
        exact g_xout B hT hA9 (Nat.le_of_ble_eq_true rfl) (Nat.le_of_ble_eq_true rfl) (Or.inl ⟨hE.1, (by first | exact hE.2 | (simp only [k_ofs, if_pos b_1, te_3, if_neg hK9]; done) | (simp only [k_ofs, if_pos b_1, te_3, if_neg hK9]; rfl) | rfl)⟩) [0, 1, 2, 3, 4, 5, 6, 7, 8, 9, 10, 11, 12, 13, 14] rfl rfl
      have kr_5 : (ix_k j 8) = 0 := hr_5
      refine g_iconst (v := 0) B dX1_ofStep_13 kc_0 ?_
      refine g_iconst (v := 2) B dX1_ofStep_14 kc_2 ?_
      refine g_iload_n B 3 4 dX1_ofStep_15 rfl rfl ?_
      refine g_xuS_v (As := [.int 0, .int 2, .int wh]) B (m_X1_requireFrom l hst g 0 2 wh) [] [] (lw_S q580 q581 q26 q582) nsX1_requireFrom rfl rfl rfl rfl (Nat.le_of_ble_eq_true rfl) dX1_ofStep_16 ⟨Nat.le_of_ble_eq_true rfl, Nat.le_of_ble_eq_true rfl⟩ ⟨Nat.le_of_ble_eq_true rfl, Nat.le_of_ble_eq_true rfl⟩ (fun E hE => ?_) (fun ur_6 hr_6 => ?_)
      · skip
        have hK9 : ¬ (fr_k 0 2 wh) = 0 := by rw [hE.2]; decide
        exact g_xout B hT hA9 (Nat.le_of_ble_eq_true rfl) (Nat.le_of_ble_eq_true rfl) (Or.inr ⟨hE.1, (by first | exact hE.2 | (simp only [k_ofs, if_pos b_1, te_3, if_pos kr_5, if_neg hK9]; done) | (simp only [k_ofs, if_pos b_1, te_3, if_pos kr_5, if_neg hK9]; rfl) | rfl)⟩) [0, 1, 2, 3, 4, 5, 6, 7, 8, 9, 10, 11, 12, 13, 14] rfl rfl
      have kr_6 : (fr_k 0 2 wh) = 0 := hr_6
      refine g_iconst (v := 3) B dX1_ofStep_19 kc_3 ?_
      refine g_newa B 3 q83 (by decide) (by decide) (Nat.le_of_ble_eq_true rfl) (Nat.le_of_ble_eq_true rfl) (Nat.le_of_ble_eq_true rfl) dX1_ofStep_20 (fun a_7 => ?_)
      refine g_dup B dX1_ofStep_22 rfl ?_
      refine g_iconst (v := 0) B dX1_ofStep_23 kc_0 ?_
      refine g_aload B 0 dX1_ofStep_24 rfl ?_
      refine g_getN (C := RX4) (T := TX4) (N := 4) B 3 3 1 (.ref (ad 13)) in_X4 rfl q268 rfl (Nat.le_of_ble_eq_true rfl) (fun _ h9 => h9) rfl dX1_ofStep_26 ?_
      refine g_iload_n B 2 3 dX1_ofStep_29 rfl rfl ?_
      refine g_iald B 6 j.toNatClampNeg rfl rfl (ix_in kr_5 (by decide)) dX1_ofStep_30 ?_
      refine g_topi (fun x_8 ex_8 => ?_)
      refine g_iast B 15 0 [((ad 0), cM ad e0 mi lo su), ((ad 8), cA (ad 9) al3), ((ad 9), .inl (g.2.2.1, 10, .inr (.inr (.inr (.inr (tq ad)))))), ((ad 10), cT (ad 13) (ad 16) (ad 19) (tr 0)), ((ad 11), cT (ad 14) (ad 17) (ad 20) (tr 1)), ((ad 12), cT (ad 15) (ad 18) (ad 21) (tr 2)), ((ad 13), .inl (g.2.1, 8, .inl (tw 0 0))), ((ad 14), .inl (g.2.1, 8, .inl (tw 1 0))), ((ad 15), .inl (g.2.1, 8, .inl (tw 2 0))), ((ad 16), .inl (g.2.1, 8, .inl (tw 0 1))), ((ad 17), .inl (g.2.1, 8, .inl (tw 1 1))), ((ad 18), .inl (g.2.1, 8, .inl (tw 2 1))), ((ad 19), .inl (g.2.1, 8, .inl (tw 0 2))), ((ad 20), .inl (g.2.1, 8, .inl (tw 1 2))), ((ad 21), .inl (g.2.1, 8, .inl (tw 2 2))), (a_7, .inl (g.2.1, 3, .inl (upd (fun _ => 0) 0 x_8)))] rfl (by decide) (vpc rfl) rfl dX1_ofStep_31 ?_
      refine g_dup B dX1_ofStep_32 rfl ?_
      refine g_iconst (v := 1) B dX1_ofStep_33 kc_1 ?_
      refine g_aload B 0 dX1_ofStep_34 rfl ?_
      refine g_getN (C := RX4) (T := TX4) (N := 4) B 3 3 2 (.ref (ad 16)) in_X4 rfl q271 rfl (Nat.le_of_ble_eq_true rfl) (fun _ h9 => h9) rfl dX1_ofStep_36 ?_
      refine g_iload_n B 2 3 dX1_ofStep_39 rfl rfl ?_
      refine g_iald B 9 j.toNatClampNeg rfl rfl (ix_in kr_5 (by decide)) dX1_ofStep_40 ?_
      refine g_topi (fun x_9 ex_9 => ?_)
      refine g_iast B 15 1 [((ad 0), cM ad e0 mi lo su), ((ad 8), cA (ad 9) al3), ((ad 9), .inl (g.2.2.1, 10, .inr (.inr (.inr (.inr (tq ad)))))), ((ad 10), cT (ad 13) (ad 16) (ad 19) (tr 0)), ((ad 11), cT (ad 14) (ad 17) (ad 20) (tr 1)), ((ad 12), cT (ad 15) (ad 18) (ad 21) (tr 2)), ((ad 13), .inl (g.2.1, 8, .inl (tw 0 0))), ((ad 14), .inl (g.2.1, 8, .inl (tw 1 0))), ((ad 15), .inl (g.2.1, 8, .inl (tw 2 0))), ((ad 16), .inl (g.2.1, 8, .inl (tw 0 1))), ((ad 17), .inl (g.2.1, 8, .inl (tw 1 1))), ((ad 18), .inl (g.2.1, 8, .inl (tw 2 1))), ((ad 19), .inl (g.2.1, 8, .inl (tw 0 2))), ((ad 20), .inl (g.2.1, 8, .inl (tw 1 2))), ((ad 21), .inl (g.2.1, 8, .inl (tw 2 2))), (a_7, .inl (g.2.1, 3, .inl (upd (upd (fun _ => 0) 0 x_8) 1 x_9)))] rfl (by decide) (vpc rfl) rfl dX1_ofStep_41 ?_
      refine g_dup B dX1_ofStep_42 rfl ?_
      refine g_iconst (v := 2) B dX1_ofStep_43 kc_2 ?_
      refine g_aload B 0 dX1_ofStep_44 rfl ?_
      refine g_getN (C := RX4) (T := TX4) (N := 4) B 3 3 3 (.ref (ad 19)) in_X4 rfl q274 rfl (Nat.le_of_ble_eq_true rfl) (fun _ h9 => h9) rfl dX1_ofStep_46 ?_
      refine g_iload_n B 2 3 dX1_ofStep_49 rfl rfl ?_
      refine g_iald B 12 j.toNatClampNeg rfl rfl (ix_in kr_5 (by decide)) dX1_ofStep_50 ?_
      refine g_topi (fun x_10 ex_10 => ?_)
      refine g_iast B 15 2 [((ad 0), cM ad e0 mi lo su), ((ad 8), cA (ad 9) al3), ((ad 9), .inl (g.2.2.1, 10, .inr (.inr (.inr (.inr (tq ad)))))), ((ad 10), cT (ad 13) (ad 16) (ad 19) (tr 0)), ((ad 11), cT (ad 14) (ad 17) (ad 20) (tr 1)), ((ad 12), cT (ad 15) (ad 18) (ad 21) (tr 2)), ((ad 13), .inl (g.2.1, 8, .inl (tw 0 0))), ((ad 14), .inl (g.2.1, 8, .inl (tw 1 0))), ((ad 15), .inl (g.2.1, 8, .inl (tw 2 0))), ((ad 16), .inl (g.2.1, 8, .inl (tw 0 1))), ((ad 17), .inl (g.2.1, 8, .inl (tw 1 1))), ((ad 18), .inl (g.2.1, 8, .inl (tw 2 1))), ((ad 19), .inl (g.2.1, 8, .inl (tw 0 2))), ((ad 20), .inl (g.2.1, 8, .inl (tw 1 2))), ((ad 21), .inl (g.2.1, 8, .inl (tw 2 2))), (a_7, .inl (g.2.1, 3, .inl (upd (upd (upd (fun _ => 0) 0 x_8) 1 x_9) 2 x_10)))] rfl (by decide) (vpc rfl) rfl dX1_ofStep_51 ?_
      refine g_astore B [(5, .ref a_7), (4, .ref (ad 10)), (0, .ref (ad 0)), (1, .int 0), (2, .int j), (3, .int wh)] dX1_ofStep_52 (Nat.le_of_ble_eq_true rfl) rfl ?_
      refine g_aload B 0 dX1_ofStep_54 rfl ?_
      refine g_iload_n B 3 5 dX1_ofStep_56 rfl rfl ?_
      refine g_iald B 15 wh.toNatClampNeg rfl rfl (fr_in kr_6 (by decide)) dX1_ofStep_57 ?_
      refine g_topi (fun x_11 ex_11 => ?_)
      subst ex_8
      subst ex_9
      subst ex_10
      subst ex_11
      exact g_xiret B hr dX1_ofStep_58 (Nat.le_of_ble_eq_true rfl) (Nat.le_of_ble_eq_true rfl) () ⟨(by first | (simp only [k_ofs, if_pos b_1, te_3, if_pos kr_5, if_pos kr_6]; done) | (simp only [k_ofs, if_pos b_1, te_3, if_pos kr_5, if_pos kr_6]; rfl) | rfl), (by first | (simp only [if_pos b_1, te_3, if_pos kr_5, if_pos kr_6]; done) | (simp only [if_pos b_1, te_3, if_pos kr_5, if_pos kr_6]; rfl) | rfl)⟩ [0, 1, 2, 3, 4, 5, 6, 7, 8, 9, 10, 11, 12, 13, 14] rfl rfl
    · skip
      replace e_3 : t = 1 := e_3
      have te_3 : t.toNatClampNeg = 1 := by rw [e_3]; decide
      refine g_lvq (lv' := [(0, .ref (ad 0)), (1, .int 1), (2, .int j), (3, .int wh)]) (by rw [e_3]) ?_
      refine g_aload_n B 0 0 dX1_ofStep_0 rfl rfl ?_
      refine g_iload_n B 1 1 dX1_ofStep_1 rfl rfl ?_
      refine g_cuV_q (C := RX1) (T := TX1) (N := 17) (As := [.int 1]) B (m_X1_track l hst g ad e0 mi lo su 1 1 (by decide) (by decide) (tr 1)) 0 0 rfl rfl [0, 1, 2, 4] [] (lw_V q691 q693 qs13 q26 q694) nvX1_track rfl rfl rfl rfl (Nat.le_of_ble_eq_true rfl) dX1_ofStep_2 ⟨Nat.le_of_ble_eq_true rfl, Nat.le_of_ble_eq_true rfl⟩ ⟨Nat.le_of_ble_eq_true rfl, Nat.le_of_ble_eq_true rfl⟩ (fun r_12 ur_12 hr_12 => ?_)
      obtain rfl : some (ad 11) = r_12 := (hr_12).symm
      refine g_eqs (st' := [.ref (ad 11)]) rfl ?_
      refine g_astore B [(4, .ref (ad 11)), (0, .ref (ad 0)), (1, .int 1), (2, .int j), (3, .int wh)] dX1_ofStep_5 (Nat.le_of_ble_eq_true rfl) rfl ?_
      refine g_iload_n B 2 3 dX1_ofStep_7 rfl rfl ?_
      refine g_bipush (v := 8) B dX1_ofStep_8 kb_8 ?_
      refine g_xuS_v (As := [.int j, .int 8]) B (m_X1_requireIndex l hst g j 8) [] [] (lw_S q669 q670 q26 q671) nsX1_requireIndex rfl rfl rfl rfl (Nat.le_of_ble_eq_true rfl) dX1_ofStep_10 ⟨Nat.le_of_ble_eq_true rfl, Nat.le_of_ble_eq_true rfl⟩ ⟨Nat.le_of_ble_eq_true rfl, Nat.le_of_ble_eq_true rfl⟩ (fun E hE => ?_) (fun ur_13 hr_13 => ?_)
      · skip
        have hK9 : ¬ (ix_k j 8) = 0 := by rw [hE.2]; decide
        exact g_xout B hT hA9 (Nat.le_of_ble_eq_true rfl) (Nat.le_of_ble_eq_true rfl) (Or.inl ⟨hE.1, (by first | exact hE.2 | (simp only [k_ofs, if_pos b_1, te_3, if_neg hK9]; done) | (simp only [k_ofs, if_pos b_1, te_3, if_neg hK9]; rfl) | rfl)⟩) [0, 1, 2, 3, 4, 5, 6, 7, 8, 9, 10, 11, 12, 13, 14] rfl rfl
      have kr_13 : (ix_k j 8) = 0 := hr_13
      refine g_iconst (v := 0) B dX1_ofStep_13 kc_0 ?_
      refine g_iconst (v := 2) B dX1_ofStep_14 kc_2 ?_
      refine g_iload_n B 3 4 dX1_ofStep_15 rfl rfl ?_
      refine g_xuS_v (As := [.int 0, .int 2, .int wh]) B (m_X1_requireFrom l hst g 0 2 wh) [] [] (lw_S q580 q581 q26 q582) nsX1_requireFrom rfl rfl rfl rfl (Nat.le_of_ble_eq_true rfl) dX1_ofStep_16 ⟨Nat.le_of_ble_eq_true rfl, Nat.le_of_ble_eq_true rfl⟩ ⟨Nat.le_of_ble_eq_true rfl, Nat.le_of_ble_eq_true rfl⟩ (fun E hE => ?_) (fun ur_14 hr_14 => ?_)
      · skip
        have hK9 : ¬ (fr_k 0 2 wh) = 0 := by rw [hE.2]; decide
        exact g_xout B hT hA9 (Nat.le_of_ble_eq_true rfl) (Nat.le_of_ble_eq_true rfl) (Or.inr ⟨hE.1, (by first | exact hE.2 | (simp only [k_ofs, if_pos b_1, te_3, if_pos kr_13, if_neg hK9]; done) | (simp only [k_ofs, if_pos b_1, te_3, if_pos kr_13, if_neg hK9]; rfl) | rfl)⟩) [0, 1, 2, 3, 4, 5, 6, 7, 8, 9, 10, 11, 12, 13, 14] rfl rfl
      have kr_14 : (fr_k 0 2 wh) = 0 := hr_14
      refine g_iconst (v := 3) B dX1_ofStep_19 kc_3 ?_
      refine g_newa B 3 q83 (by decide) (by decide) (Nat.le_of_ble_eq_true rfl) (Nat.le_of_ble_eq_true rfl) (Nat.le_of_ble_eq_true rfl) dX1_ofStep_20 (fun a_15 => ?_)
      refine g_dup B dX1_ofStep_22 rfl ?_
      refine g_iconst (v := 0) B dX1_ofStep_23 kc_0 ?_
      refine g_aload B 0 dX1_ofStep_24 rfl ?_
      refine g_getN (C := RX4) (T := TX4) (N := 4) B 3 4 1 (.ref (ad 14)) in_X4 rfl q268 rfl (Nat.le_of_ble_eq_true rfl) (fun _ h9 => h9) rfl dX1_ofStep_26 ?_
      refine g_iload_n B 2 3 dX1_ofStep_29 rfl rfl ?_
      refine g_iald B 7 j.toNatClampNeg rfl rfl (ix_in kr_13 (by decide)) dX1_ofStep_30 ?_
      refine g_topi (fun x_16 ex_16 => ?_)
      refine g_iast B 15 0 [((ad 0), cM ad e0 mi lo su), ((ad 8), cA (ad 9) al3), ((ad 9), .inl (g.2.2.1, 10, .inr (.inr (.inr (.inr (tq ad)))))), ((ad 10), cT (ad 13) (ad 16) (ad 19) (tr 0)), ((ad 11), cT (ad 14) (ad 17) (ad 20) (tr 1)), ((ad 12), cT (ad 15) (ad 18) (ad 21) (tr 2)), ((ad 13), .inl (g.2.1, 8, .inl (tw 0 0))), ((ad 14), .inl (g.2.1, 8, .inl (tw 1 0))), ((ad 15), .inl (g.2.1, 8, .inl (tw 2 0))), ((ad 16), .inl (g.2.1, 8, .inl (tw 0 1))), ((ad 17), .inl (g.2.1, 8, .inl (tw 1 1))), ((ad 18), .inl (g.2.1, 8, .inl (tw 2 1))), ((ad 19), .inl (g.2.1, 8, .inl (tw 0 2))), ((ad 20), .inl (g.2.1, 8, .inl (tw 1 2))), ((ad 21), .inl (g.2.1, 8, .inl (tw 2 2))), (a_15, .inl (g.2.1, 3, .inl (upd (fun _ => 0) 0 x_16)))] rfl (by decide) (vpc rfl) rfl dX1_ofStep_31 ?_
      refine g_dup B dX1_ofStep_32 rfl ?_
      refine g_iconst (v := 1) B dX1_ofStep_33 kc_1 ?_
      refine g_aload B 0 dX1_ofStep_34 rfl ?_
      refine g_getN (C := RX4) (T := TX4) (N := 4) B 3 4 2 (.ref (ad 17)) in_X4 rfl q271 rfl (Nat.le_of_ble_eq_true rfl) (fun _ h9 => h9) rfl dX1_ofStep_36 ?_
      refine g_iload_n B 2 3 dX1_ofStep_39 rfl rfl ?_
      refine g_iald B 10 j.toNatClampNeg rfl rfl (ix_in kr_13 (by decide)) dX1_ofStep_40 ?_
      refine g_topi (fun x_17 ex_17 => ?_)
      refine g_iast B 15 1 [((ad 0), cM ad e0 mi lo su), ((ad 8), cA (ad 9) al3), ((ad 9), .inl (g.2.2.1, 10, .inr (.inr (.inr (.inr (tq ad)))))), ((ad 10), cT (ad 13) (ad 16) (ad 19) (tr 0)), ((ad 11), cT (ad 14) (ad 17) (ad 20) (tr 1)), ((ad 12), cT (ad 15) (ad 18) (ad 21) (tr 2)), ((ad 13), .inl (g.2.1, 8, .inl (tw 0 0))), ((ad 14), .inl (g.2.1, 8, .inl (tw 1 0))), ((ad 15), .inl (g.2.1, 8, .inl (tw 2 0))), ((ad 16), .inl (g.2.1, 8, .inl (tw 0 1))), ((ad 17), .inl (g.2.1, 8, .inl (tw 1 1))), ((ad 18), .inl (g.2.1, 8, .inl (tw 2 1))), ((ad 19), .inl (g.2.1, 8, .inl (tw 0 2))), ((ad 20), .inl (g.2.1, 8, .inl (tw 1 2))), ((ad 21), .inl (g.2.1, 8, .inl (tw 2 2))), (a_15, .inl (g.2.1, 3, .inl (upd (upd (fun _ => 0) 0 x_16) 1 x_17)))] rfl (by decide) (vpc rfl) rfl dX1_ofStep_41 ?_
      refine g_dup B dX1_ofStep_42 rfl ?_
      refine g_iconst (v := 2) B dX1_ofStep_43 kc_2 ?_
      refine g_aload B 0 dX1_ofStep_44 rfl ?_
      refine g_getN (C := RX4) (T := TX4) (N := 4) B 3 4 3 (.ref (ad 20)) in_X4 rfl q274 rfl (Nat.le_of_ble_eq_true rfl) (fun _ h9 => h9) rfl dX1_ofStep_46 ?_
      refine g_iload_n B 2 3 dX1_ofStep_49 rfl rfl ?_
      refine g_iald B 13 j.toNatClampNeg rfl rfl (ix_in kr_13 (by decide)) dX1_ofStep_50 ?_
      refine g_topi (fun x_18 ex_18 => ?_)
      refine g_iast B 15 2 [((ad 0), cM ad e0 mi lo su), ((ad 8), cA (ad 9) al3), ((ad 9), .inl (g.2.2.1, 10, .inr (.inr (.inr (.inr (tq ad)))))), ((ad 10), cT (ad 13) (ad 16) (ad 19) (tr 0)), ((ad 11), cT (ad 14) (ad 17) (ad 20) (tr 1)), ((ad 12), cT (ad 15) (ad 18) (ad 21) (tr 2)), ((ad 13), .inl (g.2.1, 8, .inl (tw 0 0))), ((ad 14), .inl (g.2.1, 8, .inl (tw 1 0))), ((ad 15), .inl (g.2.1, 8, .inl (tw 2 0))), ((ad 16), .inl (g.2.1, 8, .inl (tw 0 1))), ((ad 17), .inl (g.2.1, 8, .inl (tw 1 1))), ((ad 18), .inl (g.2.1, 8, .inl (tw 2 1))), ((ad 19), .inl (g.2.1, 8, .inl (tw 0 2))), ((ad 20), .inl (g.2.1, 8, .inl (tw 1 2))), ((ad 21), .inl (g.2.1, 8, .inl (tw 2 2))), (a_15, .inl (g.2.1, 3, .inl (upd (upd (upd (fun _ => 0) 0 x_16) 1 x_17) 2 x_18)))] rfl (by decide) (vpc rfl) rfl dX1_ofStep_51 ?_
      refine g_astore B [(5, .ref a_15), (4, .ref (ad 11)), (0, .ref (ad 0)), (1, .int 1), (2, .int j), (3, .int wh)] dX1_ofStep_52 (Nat.le_of_ble_eq_true rfl) rfl ?_
      refine g_aload B 0 dX1_ofStep_54 rfl ?_
      refine g_iload_n B 3 5 dX1_ofStep_56 rfl rfl ?_
      refine g_iald B 15 wh.toNatClampNeg rfl rfl (fr_in kr_14 (by decide)) dX1_ofStep_57 ?_
      refine g_topi (fun x_19 ex_19 => ?_)
      subst ex_16
      subst ex_17
      subst ex_18
      subst ex_19
      exact g_xiret B hr dX1_ofStep_58 (Nat.le_of_ble_eq_true rfl) (Nat.le_of_ble_eq_true rfl) () ⟨(by first | (simp only [k_ofs, if_pos b_1, te_3, if_pos kr_13, if_pos kr_14]; done) | (simp only [k_ofs, if_pos b_1, te_3, if_pos kr_13, if_pos kr_14]; rfl) | rfl), (by first | (simp only [if_pos b_1, te_3, if_pos kr_13, if_pos kr_14]; done) | (simp only [if_pos b_1, te_3, if_pos kr_13, if_pos kr_14]; rfl) | rfl)⟩ [0, 1, 2, 3, 4, 5, 6, 7, 8, 9, 10, 11, 12, 13, 14] rfl rfl
    · skip
      replace e_3 : t = 2 := e_3
      have te_3 : t.toNatClampNeg = 2 := by rw [e_3]; decide
      refine g_lvq (lv' := [(0, .ref (ad 0)), (1, .int 2), (2, .int j), (3, .int wh)]) (by rw [e_3]) ?_
      refine g_aload_n B 0 0 dX1_ofStep_0 rfl rfl ?_
      refine g_iload_n B 1 1 dX1_ofStep_1 rfl rfl ?_
      refine g_cuV_q (C := RX1) (T := TX1) (N := 17) (As := [.int 2]) B (m_X1_track l hst g ad e0 mi lo su 2 2 (by decide) (by decide) (tr 2)) 0 0 rfl rfl [0, 1, 2, 5] [] (lw_V q691 q693 qs13 q26 q694) nvX1_track rfl rfl rfl rfl (Nat.le_of_ble_eq_true rfl) dX1_ofStep_2 ⟨Nat.le_of_ble_eq_true rfl, Nat.le_of_ble_eq_true rfl⟩ ⟨Nat.le_of_ble_eq_true rfl, Nat.le_of_ble_eq_true rfl⟩ (fun r_20 ur_20 hr_20 => ?_)
      obtain rfl : some (ad 12) = r_20 := (hr_20).symm
      refine g_eqs (st' := [.ref (ad 12)]) rfl ?_
      refine g_astore B [(4, .ref (ad 12)), (0, .ref (ad 0)), (1, .int 2), (2, .int j), (3, .int wh)] dX1_ofStep_5 (Nat.le_of_ble_eq_true rfl) rfl ?_
      refine g_iload_n B 2 3 dX1_ofStep_7 rfl rfl ?_
      refine g_bipush (v := 8) B dX1_ofStep_8 kb_8 ?_
      refine g_xuS_v (As := [.int j, .int 8]) B (m_X1_requireIndex l hst g j 8) [] [] (lw_S q669 q670 q26 q671) nsX1_requireIndex rfl rfl rfl rfl (Nat.le_of_ble_eq_true rfl) dX1_ofStep_10 ⟨Nat.le_of_ble_eq_true rfl, Nat.le_of_ble_eq_true rfl⟩ ⟨Nat.le_of_ble_eq_true rfl, Nat.le_of_ble_eq_true rfl⟩ (fun E hE => ?_) (fun ur_21 hr_21 => ?_)
      · skip
        have hK9 : ¬ (ix_k j 8) = 0 := by rw [hE.2]; decide
        exact g_xout B hT hA9 (Nat.le_of_ble_eq_true rfl) (Nat.le_of_ble_eq_true rfl) (Or.inl ⟨hE.1, (by first | exact hE.2 | (simp only [k_ofs, if_pos b_1, te_3, if_neg hK9]; done) | (simp only [k_ofs, if_pos b_1, te_3, if_neg hK9]; rfl) | rfl)⟩) [0, 1, 2, 3, 4, 5, 6, 7, 8, 9, 10, 11, 12, 13, 14] rfl rfl
      have kr_21 : (ix_k j 8) = 0 := hr_21
      refine g_iconst (v := 0) B dX1_ofStep_13 kc_0 ?_
      refine g_iconst (v := 2) B dX1_ofStep_14 kc_2 ?_
      refine g_iload_n B 3 4 dX1_ofStep_15 rfl rfl ?_
      refine g_xuS_v (As := [.int 0, .int 2, .int wh]) B (m_X1_requireFrom l hst g 0 2 wh) [] [] (lw_S q580 q581 q26 q582) nsX1_requireFrom rfl rfl rfl rfl (Nat.le_of_ble_eq_true rfl) dX1_ofStep_16 ⟨Nat.le_of_ble_eq_true rfl, Nat.le_of_ble_eq_true rfl⟩ ⟨Nat.le_of_ble_eq_true rfl, Nat.le_of_ble_eq_true rfl⟩ (fun E hE => ?_) (fun ur_22 hr_22 => ?_)
      · skip
        have hK9 : ¬ (fr_k 0 2 wh) = 0 := by rw [hE.2]; decide
        exact g_xout B hT hA9 (Nat.le_of_ble_eq_true rfl) (Nat.le_of_ble_eq_true rfl) (Or.inr ⟨hE.1, (by first | exact hE.2 | (simp only [k_ofs, if_pos b_1, te_3, if_pos kr_21, if_neg hK9]; done) | (simp only [k_ofs, if_pos b_1, te_3, if_pos kr_21, if_neg hK9]; rfl) | rfl)⟩) [0, 1, 2, 3, 4, 5, 6, 7, 8, 9, 10, 11, 12, 13, 14] rfl rfl
      have kr_22 : (fr_k 0 2 wh) = 0 := hr_22
      refine g_iconst (v := 3) B dX1_ofStep_19 kc_3 ?_
      refine g_newa B 3 q83 (by decide) (by decide) (Nat.le_of_ble_eq_true rfl) (Nat.le_of_ble_eq_true rfl) (Nat.le_of_ble_eq_true rfl) dX1_ofStep_20 (fun a_23 => ?_)
      refine g_dup B dX1_ofStep_22 rfl ?_
      refine g_iconst (v := 0) B dX1_ofStep_23 kc_0 ?_
      refine g_aload B 0 dX1_ofStep_24 rfl ?_
      refine g_getN (C := RX4) (T := TX4) (N := 4) B 3 5 1 (.ref (ad 15)) in_X4 rfl q268 rfl (Nat.le_of_ble_eq_true rfl) (fun _ h9 => h9) rfl dX1_ofStep_26 ?_
      refine g_iload_n B 2 3 dX1_ofStep_29 rfl rfl ?_
      refine g_iald B 8 j.toNatClampNeg rfl rfl (ix_in kr_21 (by decide)) dX1_ofStep_30 ?_
      refine g_topi (fun x_24 ex_24 => ?_)
      refine g_iast B 15 0 [((ad 0), cM ad e0 mi lo su), ((ad 8), cA (ad 9) al3), ((ad 9), .inl (g.2.2.1, 10, .inr (.inr (.inr (.inr (tq ad)))))), ((ad 10), cT (ad 13) (ad 16) (ad 19) (tr 0)), ((ad 11), cT (ad 14) (ad 17) (ad 20) (tr 1)), ((ad 12), cT (ad 15) (ad 18) (ad 21) (tr 2)), ((ad 13), .inl (g.2.1, 8, .inl (tw 0 0))), ((ad 14), .inl (g.2.1, 8, .inl (tw 1 0))), ((ad 15), .inl (g.2.1, 8, .inl (tw 2 0))), ((ad 16), .inl (g.2.1, 8, .inl (tw 0 1))), ((ad 17), .inl (g.2.1, 8, .inl (tw 1 1))), ((ad 18), .inl (g.2.1, 8, .inl (tw 2 1))), ((ad 19), .inl (g.2.1, 8, .inl (tw 0 2))), ((ad 20), .inl (g.2.1, 8, .inl (tw 1 2))), ((ad 21), .inl (g.2.1, 8, .inl (tw 2 2))), (a_23, .inl (g.2.1, 3, .inl (upd (fun _ => 0) 0 x_24)))] rfl (by decide) (vpc rfl) rfl dX1_ofStep_31 ?_
      refine g_dup B dX1_ofStep_32 rfl ?_
      refine g_iconst (v := 1) B dX1_ofStep_33 kc_1 ?_
      refine g_aload B 0 dX1_ofStep_34 rfl ?_
      refine g_getN (C := RX4) (T := TX4) (N := 4) B 3 5 2 (.ref (ad 18)) in_X4 rfl q271 rfl (Nat.le_of_ble_eq_true rfl) (fun _ h9 => h9) rfl dX1_ofStep_36 ?_
      refine g_iload_n B 2 3 dX1_ofStep_39 rfl rfl ?_
      refine g_iald B 11 j.toNatClampNeg rfl rfl (ix_in kr_21 (by decide)) dX1_ofStep_40 ?_
      refine g_topi (fun x_25 ex_25 => ?_)
      refine g_iast B 15 1 [((ad 0), cM ad e0 mi lo su), ((ad 8), cA (ad 9) al3), ((ad 9), .inl (g.2.2.1, 10, .inr (.inr (.inr (.inr (tq ad)))))), ((ad 10), cT (ad 13) (ad 16) (ad 19) (tr 0)), ((ad 11), cT (ad 14) (ad 17) (ad 20) (tr 1)), ((ad 12), cT (ad 15) (ad 18) (ad 21) (tr 2)), ((ad 13), .inl (g.2.1, 8, .inl (tw 0 0))), ((ad 14), .inl (g.2.1, 8, .inl (tw 1 0))), ((ad 15), .inl (g.2.1, 8, .inl (tw 2 0))), ((ad 16), .inl (g.2.1, 8, .inl (tw 0 1))), ((ad 17), .inl (g.2.1, 8, .inl (tw 1 1))), ((ad 18), .inl (g.2.1, 8, .inl (tw 2 1))), ((ad 19), .inl (g.2.1, 8, .inl (tw 0 2))), ((ad 20), .inl (g.2.1, 8, .inl (tw 1 2))), ((ad 21), .inl (g.2.1, 8, .inl (tw 2 2))), (a_23, .inl (g.2.1, 3, .inl (upd (upd (fun _ => 0) 0 x_24) 1 x_25)))] rfl (by decide) (vpc rfl) rfl dX1_ofStep_41 ?_
      refine g_dup B dX1_ofStep_42 rfl ?_
      refine g_iconst (v := 2) B dX1_ofStep_43 kc_2 ?_
      refine g_aload B 0 dX1_ofStep_44 rfl ?_
      refine g_getN (C := RX4) (T := TX4) (N := 4) B 3 5 3 (.ref (ad 21)) in_X4 rfl q274 rfl (Nat.le_of_ble_eq_true rfl) (fun _ h9 => h9) rfl dX1_ofStep_46 ?_
      refine g_iload_n B 2 3 dX1_ofStep_49 rfl rfl ?_
      refine g_iald B 14 j.toNatClampNeg rfl rfl (ix_in kr_21 (by decide)) dX1_ofStep_50 ?_
      refine g_topi (fun x_26 ex_26 => ?_)
      refine g_iast B 15 2 [((ad 0), cM ad e0 mi lo su), ((ad 8), cA (ad 9) al3), ((ad 9), .inl (g.2.2.1, 10, .inr (.inr (.inr (.inr (tq ad)))))), ((ad 10), cT (ad 13) (ad 16) (ad 19) (tr 0)), ((ad 11), cT (ad 14) (ad 17) (ad 20) (tr 1)), ((ad 12), cT (ad 15) (ad 18) (ad 21) (tr 2)), ((ad 13), .inl (g.2.1, 8, .inl (tw 0 0))), ((ad 14), .inl (g.2.1, 8, .inl (tw 1 0))), ((ad 15), .inl (g.2.1, 8, .inl (tw 2 0))), ((ad 16), .inl (g.2.1, 8, .inl (tw 0 1))), ((ad 17), .inl (g.2.1, 8, .inl (tw 1 1))), ((ad 18), .inl (g.2.1, 8, .inl (tw 2 1))), ((ad 19), .inl (g.2.1, 8, .inl (tw 0 2))), ((ad 20), .inl (g.2.1, 8, .inl (tw 1 2))), ((ad 21), .inl (g.2.1, 8, .inl (tw 2 2))), (a_23, .inl (g.2.1, 3, .inl (upd (upd (upd (fun _ => 0) 0 x_24) 1 x_25) 2 x_26)))] rfl (by decide) (vpc rfl) rfl dX1_ofStep_51 ?_
      refine g_astore B [(5, .ref a_23), (4, .ref (ad 12)), (0, .ref (ad 0)), (1, .int 2), (2, .int j), (3, .int wh)] dX1_ofStep_52 (Nat.le_of_ble_eq_true rfl) rfl ?_
      refine g_aload B 0 dX1_ofStep_54 rfl ?_
      refine g_iload_n B 3 5 dX1_ofStep_56 rfl rfl ?_
      refine g_iald B 15 wh.toNatClampNeg rfl rfl (fr_in kr_22 (by decide)) dX1_ofStep_57 ?_
      refine g_topi (fun x_27 ex_27 => ?_)
      subst ex_24
      subst ex_25
      subst ex_26
      subst ex_27
      exact g_xiret B hr dX1_ofStep_58 (Nat.le_of_ble_eq_true rfl) (Nat.le_of_ble_eq_true rfl) () ⟨(by first | (simp only [k_ofs, if_pos b_1, te_3, if_pos kr_21, if_pos kr_22]; done) | (simp only [k_ofs, if_pos b_1, te_3, if_pos kr_21, if_pos kr_22]; rfl) | rfl), (by first | (simp only [if_pos b_1, te_3, if_pos kr_21, if_pos kr_22]; done) | (simp only [if_pos b_1, te_3, if_pos kr_21, if_pos kr_22]; rfl) | rfl)⟩ [0, 1, 2, 3, 4, 5, 6, 7, 8, 9, 10, 11, 12, 13, 14] rfl rfl
  · skip
    refine g_aload_n B 0 0 dX1_ofStep_0 rfl rfl ?_
    refine g_iload_n B 1 1 dX1_ofStep_1 rfl rfl ?_
    refine g_xuV_q (C := RX1) (T := TX1) (N := 17) (As := [.int t]) B (m_X1_track_b l hst g ad e0 mi lo su t b_1) 0 0 rfl rfl [0] [] (lw_V q691 q693 qs13 q26 q694) nvX1_track rfl rfl rfl rfl (Nat.le_of_ble_eq_true rfl) dX1_ofStep_2 ⟨Nat.le_of_ble_eq_true rfl, Nat.le_of_ble_eq_true rfl⟩ ⟨Nat.le_of_ble_eq_true rfl, Nat.le_of_ble_eq_true rfl⟩ (fun E hE => ?_) (fun r_28 ur_28 hr_28 => ?_)
    · skip
      have hK9 : ¬ (ix_k t 3) = 0 := by rw [hE.2]; decide
      exact g_xout B hT hA9 (Nat.le_of_ble_eq_true rfl) (Nat.le_of_ble_eq_true rfl) (Or.inl ⟨hE.1, (by first | exact hE.2 | (simp only [k_ofs, if_neg b_1, if_neg hK9]; done) | (simp only [k_ofs, if_neg b_1, if_neg hK9]; rfl) | rfl)⟩) [0, 1, 2, 3, 4, 5, 6, 7, 8, 9, 10, 11, 12, 13, 14] rfl rfl
    have kr_28 : (ix_k t 3) = 0 := hr_28.1
    replace hr_28 := hr_28.2
    exact absurd kr_28 b_1

set_option maxHeartbeats 4000000 in
set_option maxRecDepth 100000 in
theorem m_X1_inDelay (l : Launch) (hst : l.stackTraces = false) (g : gG) (ad ed : Nat → Nat) (mi : Nat → Int32) (lo su : Int64) (en rw : Nat → Int32) (pl : Int32) (hl : rg (mi 3) 0 200) (hh : ¬ mi 3 ≤ 0 → vp_in (en 0) 200) : gXi l yX1_inDelay cX1_inDelay 2 .int 7 110 1 6 g [((ad 0), cM ad (ed 0) mi lo su), ((ed 0), cE (ed 1) (ed 7) (ad 0) en), ((ed 7), .inl (g.2.1, 200, .inl rw))] [.ref (ad 0), .int pl] (fun (r : Int32) (_ : Unit) => (k_ind (mi 3) pl) = 0 ∧ r = rw (prm (en 0 + pl) (mi 3)).toNatClampNeg) (fun _ : Unit => [((ad 0), cM ad (ed 0) mi lo su), ((ed 0), cE (ed 1) (ed 7) (ad 0) en), ((ed 7), .inl (g.2.1, 200, .inl rw))]) (fun E : String => E = eIO ∧ (k_ind (mi 3) pl) = 1) := by
  intro sz
  refine g_xent (by decide) hst [(0, .ref (ad 0)), (1, .int pl)] (Nat.le_of_ble_eq_true rfl) rfl ?_
  intro p e s m below meth c B hr hnm hsz hT
  have B : gB p l s m ([.ref (ad 0), .int pl] : List Value).toArray meth c RX1 cX1_inDelay 2 g (va_A [((ad 0), cM ad (ed 0) mi lo su), ((ed 0), cE (ed 1) (ed 7) (ad 0) en), ((ed 7), .inl (g.2.1, 200, .inl rw))] sz) := B
  have hA9 : (va_A [((ad 0), cM ad (ed 0) mi lo su), ((ed 0), cE (ed 1) (ed 7) (ad 0) en), ((ed 7), .inl (g.2.1, 200, .inl rw))] sz) = va_A [((ad 0), cM ad (ed 0) mi lo su), ((ed 0), cE (ed 1) (ed 7) (ad 0) en), ((ed 7), .inl (g.2.1, 200, .inl rw))] s.heap.size := by rw [hsz]
  subst hsz
  refine g_iload_n B 1 1 dX1_inDelay_0 rfl rfl ?_
  refine g_aload_n B 0 0 dX1_inDelay_1 rfl rfl ?_
  refine g_get (C := RX1) (T := TX1) (N := 17) B 0 0 6 (.int (mi 3)) in_X1 rfl q354 rfl (Nat.le_of_ble_eq_true rfl) (fun _ h9 => h9) rfl dX1_inDelay_2 ?_
  refine g_xuS_v (As := [.int pl, .int (mi 3)]) B (m_X1_requireIndex l hst g pl (mi 3)) [] [] (lw_S q669 q670 q26 q671) nsX1_requireIndex rfl rfl rfl rfl (Nat.le_of_ble_eq_true rfl) dX1_inDelay_5 ⟨Nat.le_of_ble_eq_true rfl, Nat.le_of_ble_eq_true rfl⟩ ⟨Nat.le_of_ble_eq_true rfl, Nat.le_of_ble_eq_true rfl⟩ (fun E hE => ?_) (fun ur_1 hr_1 => ?_)
  · skip
    have hK9 : ¬ (ix_k pl (mi 3)) = 0 := by rw [hE.2]; decide
    exact g_xout B hT hA9 (Nat.le_of_ble_eq_true rfl) (Nat.le_of_ble_eq_true rfl) ⟨hE.1, (by first | exact hE.2 | (simp only [k_ind, if_neg hK9]; done) | (simp only [k_ind, if_neg hK9]; rfl) | rfl)⟩ [0, 1, 2] rfl rfl
  have kr_1 : (ix_k pl (mi 3)) = 0 := hr_1
  refine g_aload_n B 0 0 dX1_inDelay_8 rfl rfl ?_
  refine g_get (C := RX1) (T := TX1) (N := 17) B 0 0 9 (.ref (ed 0)) in_X1 rfl q359 rfl (Nat.le_of_ble_eq_true rfl) (fun _ h9 => h9) rfl dX1_inDelay_9 ?_
  refine g_getN (C := RX2) (T := TX2) (N := 12) B 1 1 1 (.ref (ed 7)) in_X2 rfl q95 rfl (Nat.le_of_ble_eq_true rfl) (fun _ h9 => h9) rfl dX1_inDelay_12 ?_
  refine g_aload_n B 0 0 dX1_inDelay_15 rfl rfl ?_
  refine g_get (C := RX1) (T := TX1) (N := 17) B 0 0 9 (.ref (ed 0)) in_X1 rfl q359 rfl (Nat.le_of_ble_eq_true rfl) (fun _ h9 => h9) rfl dX1_inDelay_16 ?_
  refine g_getN (C := RX2) (T := TX2) (N := 12) B 1 1 2 (.int (en 0)) in_X2 rfl q97 rfl (Nat.le_of_ble_eq_true rfl) (fun _ h9 => h9) rfl dX1_inDelay_19 ?_
  refine g_iload_n B 1 1 dX1_inDelay_22 rfl rfl ?_
  refine g_iadd B dX1_inDelay_23 ?_
  refine g_aload_n B 0 0 dX1_inDelay_24 rfl rfl ?_
  refine g_get (C := RX1) (T := TX1) (N := 17) B 0 0 6 (.int (mi 3)) in_X1 rfl q354 rfl (Nat.le_of_ble_eq_true rfl) (fun _ h9 => h9) rfl dX1_inDelay_25 ?_
  refine g_irem B dX1_inDelay_28 (ind_1 kr_1) ?_
  refine g_iald B 2 ((prm ((en 0) + pl) (mi 3)).toNatClampNeg) rfl rfl (ind_2 kr_1 hl hh) dX1_inDelay_29 ?_
  refine g_topi (fun x_2 ex_2 => ?_)
  subst ex_2
  exact g_xiret B hr dX1_inDelay_30 (Nat.le_of_ble_eq_true rfl) (Nat.le_of_ble_eq_true rfl) () ⟨(by first | (simp only [k_ind, if_pos kr_1]; done) | (simp only [k_ind, if_pos kr_1]; rfl) | rfl), (by first | (simp only [if_pos kr_1]; done) | (simp only [if_pos kr_1]; rfl) | rfl)⟩ [0, 1, 2] rfl rfl
