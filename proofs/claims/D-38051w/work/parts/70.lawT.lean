/-! the law's turns -/
set_option maxRecDepth 100000
theorem it_9 : (9 : Int32).toInt = 9 := by decide
theorem it_10 : (10 : Int32).toInt = 10 := by decide
theorem it_11 : (11 : Int32).toInt = 11 := by decide
theorem it_12 : (12 : Int32).toInt = 12 := by decide
theorem it_13 : (13 : Int32).toInt = 13 := by decide
theorem it_14 : (14 : Int32).toInt = 14 := by decide
theorem it_15 : (15 : Int32).toInt = 15 := by decide
theorem it_16 : (16 : Int32).toInt = 16 := by decide
theorem it_17 : (17 : Int32).toInt = 17 := by decide
theorem it_18 : (18 : Int32).toInt = 18 := by decide
theorem it_19 : (19 : Int32).toInt = 19 := by decide
theorem it_20 : (20 : Int32).toInt = 20 := by decide
theorem it_21 : (21 : Int32).toInt = 21 := by decide
theorem it_22 : (22 : Int32).toInt = 22 := by decide
theorem it_23 : (23 : Int32).toInt = 23 := by decide
theorem it_24 : (24 : Int32).toInt = 24 := by decide
theorem it_25 : (25 : Int32).toInt = 25 := by decide
theorem it_26 : (26 : Int32).toInt = 26 := by decide
theorem it_27 : (27 : Int32).toInt = 27 := by decide
theorem it_28 : (28 : Int32).toInt = 28 := by decide
theorem it_29 : (29 : Int32).toInt = 29 := by decide
theorem it_30 : (30 : Int32).toInt = 30 := by decide
theorem it_31 : (31 : Int32).toInt = 31 := by decide
theorem it_32 : (32 : Int32).toInt = 32 := by decide
theorem it_33 : (33 : Int32).toInt = 33 := by decide
theorem it_34 : (34 : Int32).toInt = 34 := by decide
theorem it_35 : (35 : Int32).toInt = 35 := by decide
theorem it_36 : (36 : Int32).toInt = 36 := by decide
theorem nsX1_init : yX1_init.cls ≠ "java/lang/invoke/MethodHandle" ∧ yX1_init.cls ≠ "java/lang/invoke/VarHandle" ∧ (parseMethodDescriptor yX1_init.desc).map (fun d => d.parameters.length) = some 0 := by decide +kernel
theorem nsX6_init : yX6_init.cls ≠ "java/lang/invoke/MethodHandle" ∧ yX6_init.cls ≠ "java/lang/invoke/VarHandle" ∧ (parseMethodDescriptor yX6_init.desc).map (fun d => d.parameters.length) = some 0 := by decide +kernel
theorem lw_go {L t : Nat} (h : 6 * t + 6 ≤ L) (hL : L ≤ 384) : ¬ nI L - 6 < nI (6 * t) := by
  rw [show nI L - 6 = nI (L - 6) from pk_sub (a := L) (b := 6) (by omega)]
  exact nI_nlt (by omega) (by omega)
theorem lw_stop {L t : Nat} (h : ¬ 6 * t + 6 ≤ L) (hL : L ≤ 384) (ht : t ≤ 64) : nI L - 6 < nI (6 * t) := by
  rw [Int32.lt_iff_toInt_lt, nI_toInt (by omega), show nI L - 6 = nI L - nI 6 from rfl, pk_sub_toInt (by omega) (by omega)]
  omega

set_option maxHeartbeats 4000000 in
set_option maxRecDepth 100000 in
theorem law_23 {p : Program} {l : Launch} {e : Env} {s : State} {m : MethodId} {below : List Frame} {meth : Method} {c : Code} {Q : State → Prop} {g : gG} {A : Nat → Prop} {b L : Nat} {xs : Nat → Int32} (B : gB p l s m #[Value.ref b] meth c RX0 cL_law 9 g A) (X : va_X b L xs s s.heap) (hbs : b < s.heap.size) (hbA : ¬ A b) {ad ed dd : Nat → Nat} {mo ou t N cb sb : Nat} (hN : N ≤ 13000) (hL : L ≤ 384) (ht : 6 * t + 6 ≤ L) (hcb : cb + 2000 ≤ 762859) (hsb : sb + 30000 ≤ 6775271) (ih : lwG p l e s m below meth c Q g A b ad ed dd mo ou t 1991 (N + 201) (cb + 2000) (sb + 30000)) : lwG p l e s m below meth c Q g A b ad ed dd mo ou t 23 N cb sb := by
  intro mi lo su dr hd ig tr tw en vf rw th da di sm fo S
  refine g_iload B 0 dL_law_23 rfl ?_
  refine g_aload_n B 0 4 dL_law_25 rfl rfl ?_
  refine g_slen B X hbs hbA dL_law_26 ?_
  refine g_bipush (v := 6) B dL_law_27 kb_6 ?_
  refine g_isub B dL_law_29 ?_
  refine g_icmp_gt_F (tgt := 1997) B dL_law_30 (by decide) (lw_go ht hL) ?_
  refine g_aload_n B 0 4 dL_law_33 rfl rfl ?_
  refine g_iload B 0 dL_law_34 rfl ?_
  refine g_sld B X hbs hbA (6 * t) (nI_clamp (by omega)) (vp_in_nI (by omega) (by omega)) dL_law_36 ?_
  refine g_bipush (v := 63) B dL_law_37 kb_63 ?_
  refine g_iand B dL_law_39 ?_
  by_cases c_1 : ((xs (6 * t)) &&& 63) = 0
  · skip
    refine g_tabIn (off := 164) (tgt := 204) B dL_law_40 (by rw [c_1]; decide) (by rw [c_1]; decide) (by rw [c_1]; decide) (by decide) ?_
    exact law_204 B X hbs hbA hN hL ht hcb hsb ih mi lo su dr hd ig tr tw en vf rw th da di sm fo S
  by_cases c_2 : ((xs (6 * t)) &&& 63) = 1
  · skip
    refine g_tabIn (off := 232) (tgt := 272) B dL_law_40 (by rw [c_2]; decide) (by rw [c_2]; decide) (by rw [c_2]; decide) (by decide) ?_
    exact law_272 B X hbs hbA hN hL ht hcb hsb ih mi lo su dr hd ig tr tw en vf rw th da di sm fo S
  by_cases c_3 : ((xs (6 * t)) &&& 63) = 2
  · skip
    refine g_tabIn (off := 300) (tgt := 340) B dL_law_40 (by rw [c_3]; decide) (by rw [c_3]; decide) (by rw [c_3]; decide) (by decide) ?_
    exact law_340 B X hbs hbA hN hL ht hcb hsb ih mi lo su dr hd ig tr tw en vf rw th da di sm fo S
  by_cases c_4 : ((xs (6 * t)) &&& 63) = 3
  · skip
    refine g_tabIn (off := 356) (tgt := 396) B dL_law_40 (by rw [c_4]; decide) (by rw [c_4]; decide) (by rw [c_4]; decide) (by decide) ?_
    exact law_396 B X hbs hbA hN hL ht hcb hsb ih mi lo su dr hd ig tr tw en vf rw th da di sm fo S
  by_cases c_5 : ((xs (6 * t)) &&& 63) = 4
  · skip
    refine g_tabIn (off := 460) (tgt := 500) B dL_law_40 (by rw [c_5]; decide) (by rw [c_5]; decide) (by rw [c_5]; decide) (by decide) ?_
    exact law_500 B X hbs hbA hN hL ht hcb hsb ih mi lo su dr hd ig tr tw en vf rw th da di sm fo S
  by_cases c_6 : ((xs (6 * t)) &&& 63) = 5
  · skip
    refine g_tabIn (off := 564) (tgt := 604) B dL_law_40 (by rw [c_6]; decide) (by rw [c_6]; decide) (by rw [c_6]; decide) (by decide) ?_
    exact law_604 B X hbs hbA hN hL ht hcb hsb ih mi lo su dr hd ig tr tw en vf rw th da di sm fo S
  by_cases c_7 : ((xs (6 * t)) &&& 63) = 6
  · skip
    refine g_tabIn (off := 644) (tgt := 684) B dL_law_40 (by rw [c_7]; decide) (by rw [c_7]; decide) (by rw [c_7]; decide) (by decide) ?_
    exact law_684 B X hbs hbA hN hL ht hcb hsb ih mi lo su dr hd ig tr tw en vf rw th da di sm fo S
  by_cases c_8 : ((xs (6 * t)) &&& 63) = 7
  · skip
    refine g_tabIn (off := 724) (tgt := 764) B dL_law_40 (by rw [c_8]; decide) (by rw [c_8]; decide) (by rw [c_8]; decide) (by decide) ?_
    exact law_764 B X hbs hbA hN hL ht hcb hsb ih mi lo su dr hd ig tr tw en vf rw th da di sm fo S
  by_cases c_9 : ((xs (6 * t)) &&& 63) = 8
  · skip
    refine g_tabIn (off := 780) (tgt := 820) B dL_law_40 (by rw [c_9]; decide) (by rw [c_9]; decide) (by rw [c_9]; decide) (by decide) ?_
    exact law_820 B X hbs hbA hN hL ht hcb hsb ih mi lo su dr hd ig tr tw en vf rw th da di sm fo S
  by_cases c_10 : ((xs (6 * t)) &&& 63) = 9
  · skip
    refine g_tabIn (off := 860) (tgt := 900) B dL_law_40 (by rw [c_10]; decide) (by rw [c_10]; decide) (by rw [c_10]; decide) (by decide) ?_
    exact law_900 B X hbs hbA hN hL ht hcb hsb ih mi lo su dr hd ig tr tw en vf rw th da di sm fo S
  by_cases c_11 : ((xs (6 * t)) &&& 63) = 10
  · skip
    refine g_tabIn (off := 940) (tgt := 980) B dL_law_40 (by rw [c_11]; decide) (by rw [c_11]; decide) (by rw [c_11]; decide) (by decide) ?_
    exact law_980 B X hbs hbA hN hL ht hcb hsb ih mi lo su dr hd ig tr tw en vf rw th da di sm fo S
  by_cases c_12 : ((xs (6 * t)) &&& 63) = 11
  · skip
    refine g_tabIn (off := 996) (tgt := 1036) B dL_law_40 (by rw [c_12]; decide) (by rw [c_12]; decide) (by rw [c_12]; decide) (by decide) ?_
    exact law_1036 B X hbs hbA hN hL ht hcb hsb ih mi lo su dr hd ig tr tw en vf rw th da di sm fo S
  by_cases c_13 : ((xs (6 * t)) &&& 63) = 12
  · skip
    refine g_tabIn (off := 1009) (tgt := 1049) B dL_law_40 (by rw [c_13]; decide) (by rw [c_13]; decide) (by rw [c_13]; decide) (by decide) ?_
    exact law_1049 B X hbs hbA hN hL ht hcb hsb ih mi lo su dr hd ig tr tw en vf rw th da di sm fo S
  by_cases c_14 : ((xs (6 * t)) &&& 63) = 13
  · skip
    refine g_tabIn (off := 1113) (tgt := 1153) B dL_law_40 (by rw [c_14]; decide) (by rw [c_14]; decide) (by rw [c_14]; decide) (by decide) ?_
    exact law_1153 B X hbs hbA hN hL ht hcb hsb ih mi lo su dr hd ig tr tw en vf rw th da di sm fo S
  by_cases c_15 : ((xs (6 * t)) &&& 63) = 14
  · skip
    refine g_tabIn (off := 1181) (tgt := 1221) B dL_law_40 (by rw [c_15]; decide) (by rw [c_15]; decide) (by rw [c_15]; decide) (by decide) ?_
    exact law_1221 B X hbs hbA hN hL ht hcb hsb ih mi lo su dr hd ig tr tw en vf rw th da di sm fo S
  by_cases c_16 : ((xs (6 * t)) &&& 63) = 15
  · skip
    refine g_tabIn (off := 1249) (tgt := 1289) B dL_law_40 (by rw [c_16]; decide) (by rw [c_16]; decide) (by rw [c_16]; decide) (by decide) ?_
    exact law_1289 B X hbs hbA hN hL ht hcb hsb ih mi lo su dr hd ig tr tw en vf rw th da di sm fo S
  by_cases c_17 : ((xs (6 * t)) &&& 63) = 16
  · skip
    refine g_tabIn (off := 1312) (tgt := 1352) B dL_law_40 (by rw [c_17]; decide) (by rw [c_17]; decide) (by rw [c_17]; decide) (by decide) ?_
    exact law_1352 B X hbs hbA hN hL ht hcb hsb ih mi lo su dr hd ig tr tw en vf rw th da di sm fo S
  by_cases c_18 : ((xs (6 * t)) &&& 63) = 17
  · skip
    refine g_tabIn (off := 1325) (tgt := 1365) B dL_law_40 (by rw [c_18]; decide) (by rw [c_18]; decide) (by rw [c_18]; decide) (by decide) ?_
    exact law_1365 B X hbs hbA hN hL ht hcb hsb ih mi lo su dr hd ig tr tw en vf rw th da di sm fo S
  by_cases c_19 : ((xs (6 * t)) &&& 63) = 18
  · skip
    refine g_tabIn (off := 1338) (tgt := 1378) B dL_law_40 (by rw [c_19]; decide) (by rw [c_19]; decide) (by rw [c_19]; decide) (by decide) ?_
    exact law_1378 B X hbs hbA hN hL ht hcb hsb ih mi lo su dr hd ig tr tw en vf rw th da di sm fo S
  by_cases c_20 : ((xs (6 * t)) &&& 63) = 19
  · skip
    refine g_tabIn (off := 1394) (tgt := 1434) B dL_law_40 (by rw [c_20]; decide) (by rw [c_20]; decide) (by rw [c_20]; decide) (by decide) ?_
    exact law_1434 B X hbs hbA hN hL ht hcb hsb ih mi lo su dr hd ig tr tw en vf rw th da di sm fo S
  by_cases c_21 : ((xs (6 * t)) &&& 63) = 20
  · skip
    refine g_tabIn (off := 1450) (tgt := 1490) B dL_law_40 (by rw [c_21]; decide) (by rw [c_21]; decide) (by rw [c_21]; decide) (by decide) ?_
    exact law_1490 B X hbs hbA hN hL ht hcb hsb ih mi lo su dr hd ig tr tw en vf rw th da di sm fo S
  by_cases c_22 : ((xs (6 * t)) &&& 63) = 21
  · skip
    refine g_tabIn (off := 1463) (tgt := 1503) B dL_law_40 (by rw [c_22]; decide) (by rw [c_22]; decide) (by rw [c_22]; decide) (by decide) ?_
    exact law_1503 B X hbs hbA hN hL ht hcb hsb ih mi lo su dr hd ig tr tw en vf rw th da di sm fo S
  by_cases c_23 : ((xs (6 * t)) &&& 63) = 22
  · skip
    refine g_tabIn (off := 1476) (tgt := 1516) B dL_law_40 (by rw [c_23]; decide) (by rw [c_23]; decide) (by rw [c_23]; decide) (by decide) ?_
    exact law_1516 B X hbs hbA hN hL ht hcb hsb ih mi lo su dr hd ig tr tw en vf rw th da di sm fo S
  by_cases c_24 : ((xs (6 * t)) &&& 63) = 23
  · skip
    refine g_tabIn (off := 1517) (tgt := 1557) B dL_law_40 (by rw [c_24]; decide) (by rw [c_24]; decide) (by rw [c_24]; decide) (by decide) ?_
    exact law_1557 B X hbs hbA hN hL ht hcb hsb ih mi lo su dr hd ig tr tw en vf rw th da di sm fo S
  by_cases c_25 : ((xs (6 * t)) &&& 63) = 24
  · skip
    refine g_tabIn (off := 1530) (tgt := 1570) B dL_law_40 (by rw [c_25]; decide) (by rw [c_25]; decide) (by rw [c_25]; decide) (by decide) ?_
    exact law_1570 B X hbs hbA hN hL ht hcb hsb ih mi lo su dr hd ig tr tw en vf rw th da di sm fo S
  by_cases c_26 : ((xs (6 * t)) &&& 63) = 25
  · skip
    refine g_tabIn (off := 1543) (tgt := 1583) B dL_law_40 (by rw [c_26]; decide) (by rw [c_26]; decide) (by rw [c_26]; decide) (by decide) ?_
    exact law_1583 B X hbs hbA hN hL ht hcb hsb ih mi lo su dr hd ig tr tw en vf rw th da di sm fo S
  by_cases c_27 : ((xs (6 * t)) &&& 63) = 26
  · skip
    refine g_tabIn (off := 1556) (tgt := 1596) B dL_law_40 (by rw [c_27]; decide) (by rw [c_27]; decide) (by rw [c_27]; decide) (by decide) ?_
    exact law_1596 B X hbs hbA hN hL ht hcb hsb ih mi lo su dr hd ig tr tw en vf rw th da di sm fo S
  by_cases c_28 : ((xs (6 * t)) &&& 63) = 27
  · skip
    refine g_tabIn (off := 1624) (tgt := 1664) B dL_law_40 (by rw [c_28]; decide) (by rw [c_28]; decide) (by rw [c_28]; decide) (by decide) ?_
    exact law_1664 B X hbs hbA hN hL ht hcb hsb ih mi lo su dr hd ig tr tw en vf rw th da di sm fo S
  by_cases c_29 : ((xs (6 * t)) &&& 63) = 28
  · skip
    refine g_tabIn (off := 1637) (tgt := 1677) B dL_law_40 (by rw [c_29]; decide) (by rw [c_29]; decide) (by rw [c_29]; decide) (by decide) ?_
    exact law_1677 B X hbs hbA hN hL ht hcb hsb ih mi lo su dr hd ig tr tw en vf rw th da di sm fo S
  by_cases c_30 : ((xs (6 * t)) &&& 63) = 29
  · skip
    refine g_tabIn (off := 1650) (tgt := 1690) B dL_law_40 (by rw [c_30]; decide) (by rw [c_30]; decide) (by rw [c_30]; decide) (by decide) ?_
    exact law_1690 B X hbs hbA hN hL ht hcb hsb ih mi lo su dr hd ig tr tw en vf rw th da di sm fo S
  by_cases c_31 : ((xs (6 * t)) &&& 63) = 30
  · skip
    refine g_tabIn (off := 1663) (tgt := 1703) B dL_law_40 (by rw [c_31]; decide) (by rw [c_31]; decide) (by rw [c_31]; decide) (by decide) ?_
    exact law_1703 B X hbs hbA hN hL ht hcb hsb ih mi lo su dr hd ig tr tw en vf rw th da di sm fo S
  by_cases c_32 : ((xs (6 * t)) &&& 63) = 31
  · skip
    refine g_tabIn (off := 1676) (tgt := 1716) B dL_law_40 (by rw [c_32]; decide) (by rw [c_32]; decide) (by rw [c_32]; decide) (by decide) ?_
    exact law_1716 B X hbs hbA hN hL ht hcb hsb ih mi lo su dr hd ig tr tw en vf rw th da di sm fo S
  by_cases c_33 : ((xs (6 * t)) &&& 63) = 32
  · skip
    refine g_tabIn (off := 1756) (tgt := 1796) B dL_law_40 (by rw [c_33]; decide) (by rw [c_33]; decide) (by rw [c_33]; decide) (by decide) ?_
    exact law_1796 B X hbs hbA hN hL ht hcb hsb ih mi lo su dr hd ig tr tw en vf rw th da di sm fo S
  by_cases c_34 : ((xs (6 * t)) &&& 63) = 33
  · skip
    refine g_tabIn (off := 1812) (tgt := 1852) B dL_law_40 (by rw [c_34]; decide) (by rw [c_34]; decide) (by rw [c_34]; decide) (by decide) ?_
    exact law_1852 B X hbs hbA hN hL ht hcb hsb ih mi lo su dr hd ig tr tw en vf rw th da di sm fo S
  by_cases c_35 : ((xs (6 * t)) &&& 63) = 34
  · skip
    refine g_tabIn (off := 1868) (tgt := 1908) B dL_law_40 (by rw [c_35]; decide) (by rw [c_35]; decide) (by rw [c_35]; decide) (by decide) ?_
    exact law_1908 B X hbs hbA hN hL ht hcb hsb ih mi lo su dr hd ig tr tw en vf rw th da di sm fo S
  by_cases c_36 : ((xs (6 * t)) &&& 63) = 35
  · skip
    refine g_tabIn (off := 1924) (tgt := 1964) B dL_law_40 (by rw [c_36]; decide) (by rw [c_36]; decide) (by rw [c_36]; decide) (by decide) ?_
    exact law_1964 B X hbs hbA hN hL ht hcb hsb ih mi lo su dr hd ig tr tw en vf rw th da di sm fo S
  by_cases c_37 : ((xs (6 * t)) &&& 63) = 36
  · skip
    refine g_tabIn (off := 1937) (tgt := 1977) B dL_law_40 (by rw [c_37]; decide) (by rw [c_37]; decide) (by rw [c_37]; decide) (by decide) ?_
    exact law_1977 B X hbs hbA hN hL ht hcb hsb ih mi lo su dr hd ig tr tw en vf rw th da di sm fo S
  refine g_tabOut (tgt := 1991) B dL_law_40 (by have nc_1 := ine c_1; have nc_2 := ine c_2; have nc_3 := ine c_3; have nc_4 := ine c_4; have nc_5 := ine c_5; have nc_6 := ine c_6; have nc_7 := ine c_7; have nc_8 := ine c_8; have nc_9 := ine c_9; have nc_10 := ine c_10; have nc_11 := ine c_11; have nc_12 := ine c_12; have nc_13 := ine c_13; have nc_14 := ine c_14; have nc_15 := ine c_15; have nc_16 := ine c_16; have nc_17 := ine c_17; have nc_18 := ine c_18; have nc_19 := ine c_19; have nc_20 := ine c_20; have nc_21 := ine c_21; have nc_22 := ine c_22; have nc_23 := ine c_23; have nc_24 := ine c_24; have nc_25 := ine c_25; have nc_26 := ine c_26; have nc_27 := ine c_27; have nc_28 := ine c_28; have nc_29 := ine c_29; have nc_30 := ine c_30; have nc_31 := ine c_31; have nc_32 := ine c_32; have nc_33 := ine c_33; have nc_34 := ine c_34; have nc_35 := ine c_35; have nc_36 := ine c_36; have nc_37 := ine c_37; simp only [it_0, it_1, it_2, it_3, it_4, it_5, it_6, it_7, it_8, it_9, it_10, it_11, it_12, it_13, it_14, it_15, it_16, it_17, it_18, it_19, it_20, it_21, it_22, it_23, it_24, it_25, it_26, it_27, it_28, it_29, it_30, it_31, it_32, it_33, it_34, it_35, it_36] at nc_1 nc_2 nc_3 nc_4 nc_5 nc_6 nc_7 nc_8 nc_9 nc_10 nc_11 nc_12 nc_13 nc_14 nc_15 nc_16 nc_17 nc_18 nc_19 nc_20 nc_21 nc_22 nc_23 nc_24 nc_25 nc_26 nc_27 nc_28 nc_29 nc_30 nc_31 nc_32 nc_33 nc_34 nc_35 nc_36 nc_37; omega) (by decide) ?_
  refine g_widen (k := cb + 2000) (n := sb + 30000) (by omega) (by omega) ?_
  exact ih mi lo su dr hd ig tr tw en vf rw th da di sm fo (Sim_mono S (by omega))

set_option maxHeartbeats 4000000 in
set_option maxRecDepth 100000 in
theorem law_0 {p : Program} {l : Launch} {e : Env} {s : State} {m : MethodId} {below : List Frame} {meth : Method} {c : Code} {Q : State → Prop} {g : gG} {A : Nat → Prop} {b L : Nat} {xs : Nat → Int32} (B : gB p l s m #[Value.ref b] meth c RX0 cL_law 9 g A) (X : va_X b L xs s s.heap) (hbs : b < s.heap.size) (hbA : ¬ A b) (hk : ∀ (ad ed dd : Nat → Nat) (mo ou : Nat), lwG p l e s m below meth c Q g A b ad ed dd mo ou 0 23 0 1000 3000) : gW p l e room_1 s m #[Value.ref b] below meth c Q 9 g A [] [(0, .ref b)] [] 0 0 0 := by
  have hst := B.st
  refine g_new (C := RX1) (T := TX1) (N := 17) B 0 [.null, .null, .null, .int 0, .int 0, .int 0, .int 0, .int 0, .int 0, .null, .null, .int 0, .int 0, .long 0, .int 0, .int 0, .long 0] in_X1 tyX1 tyX1_ok q49 q50 q26 rfl dfX1 (Nat.le_of_ble_eq_true rfl) (Nat.le_of_ble_eq_true rfl) dL_law_0 (fun a_1 => ?_)
  refine g_dup B dL_law_3 rfl ?_
  refine g_cI_v (As := []) B (m_X1_init l hst g a_1) [0] [.ref a_1] (lw_meth q53) q26 q51 q52 rfl nsX1_init rfl rfl (fun _ => rfl) rfl rfl (Nat.le_of_ble_eq_true rfl) dL_law_4 ⟨Nat.le_of_ble_eq_true rfl, Nat.le_of_ble_eq_true rfl⟩ ⟨Nat.le_of_ble_eq_true rfl, Nat.le_of_ble_eq_true rfl⟩ (fun ur_2 hr_2 => ?_)
  refine g_eqw (ws' := [(a_1, cM ur_2.1 (ur_2.2 0) mi0 0 0), ((ur_2.1 22), .inl (g.2.1, 64, .inl z0)), ((ur_2.1 1), .inl (g.2.1, 32, .inl z0)), ((ur_2.1 2), cA (ur_2.1 3) al4), ((ur_2.1 3), .inl (g.2.2.1, 10, .inr (.inr (.inr (.inr (iq ur_2.1)))))), ((ur_2.1 4), cI i0), ((ur_2.1 5), cI i0), ((ur_2.1 6), cI i0), ((ur_2.1 7), cI i0), ((ur_2.1 8), cA (ur_2.1 9) al3), ((ur_2.1 9), .inl (g.2.2.1, 10, .inr (.inr (.inr (.inr (tq ur_2.1)))))), ((ur_2.1 10), cT (ur_2.1 13) (ur_2.1 16) (ur_2.1 19) z0), ((ur_2.1 11), cT (ur_2.1 14) (ur_2.1 17) (ur_2.1 20) z0), ((ur_2.1 12), cT (ur_2.1 15) (ur_2.1 18) (ur_2.1 21) z0), ((ur_2.1 13), .inl (g.2.1, 8, .inl tp0)), ((ur_2.1 14), .inl (g.2.1, 8, .inl tp0)), ((ur_2.1 15), .inl (g.2.1, 8, .inl tp0)), ((ur_2.1 16), .inl (g.2.1, 8, .inl z0)), ((ur_2.1 17), .inl (g.2.1, 8, .inl z0)), ((ur_2.1 18), .inl (g.2.1, 8, .inl z0)), ((ur_2.1 19), .inl (g.2.1, 8, .inl z0)), ((ur_2.1 20), .inl (g.2.1, 8, .inl z0)), ((ur_2.1 21), .inl (g.2.1, 8, .inl z0)), ((ur_2.2 0), cE (ur_2.2 1) (ur_2.2 7) a_1 z0), ((ur_2.2 1), cA (ur_2.2 2) al4), ((ur_2.2 2), .inl (g.2.2.1, 10, .inr (.inr (.inr (.inr (vq ur_2.2)))))), ((ur_2.2 3), cV v0), ((ur_2.2 4), cV v0), ((ur_2.2 5), cV v0), ((ur_2.2 6), cV v0), ((ur_2.2 7), .inl (g.2.1, 200, .inl z0))]) rfl ?_
  obtain rfl : ur_2.1 0 = a_1 := hr_2
  refine g_astore_n B 1 [(1, .ref (ur_2.1 0)), (0, .ref b)] dL_law_7 rfl (Nat.le_of_ble_eq_true rfl) rfl ?_
  refine g_new (C := RX6) (T := TX6) (N := 2) B 5 [.int 0, .null] in_X6 tyX6 tyX6_ok q898 q899 q38 rfl dfX6 (Nat.le_of_ble_eq_true rfl) (Nat.le_of_ble_eq_true rfl) dL_law_8 (fun a_3 => ?_)
  refine g_dup B dL_law_11 rfl ?_
  refine g_cI_v (As := []) B (m_X6_init l hst g a_3) [31] [.ref a_3] (lw_meth q902) q38 q900 q901 rfl nsX6_init rfl rfl (fun _ => rfl) rfl rfl (Nat.le_of_ble_eq_true rfl) dL_law_12 ⟨Nat.le_of_ble_eq_true rfl, Nat.le_of_ble_eq_true rfl⟩ ⟨Nat.le_of_ble_eq_true rfl, Nat.le_of_ble_eq_true rfl⟩ (fun ur_4 hr_4 => ?_)
  refine g_eqw (ws' := [((ur_2.1 0), cM ur_2.1 (ur_2.2 0) mi0 0 0), ((ur_2.1 22), .inl (g.2.1, 64, .inl z0)), ((ur_2.1 1), .inl (g.2.1, 32, .inl z0)), ((ur_2.1 2), cA (ur_2.1 3) al4), ((ur_2.1 3), .inl (g.2.2.1, 10, .inr (.inr (.inr (.inr (iq ur_2.1)))))), ((ur_2.1 4), cI i0), ((ur_2.1 5), cI i0), ((ur_2.1 6), cI i0), ((ur_2.1 7), cI i0), ((ur_2.1 8), cA (ur_2.1 9) al3), ((ur_2.1 9), .inl (g.2.2.1, 10, .inr (.inr (.inr (.inr (tq ur_2.1)))))), ((ur_2.1 10), cT (ur_2.1 13) (ur_2.1 16) (ur_2.1 19) z0), ((ur_2.1 11), cT (ur_2.1 14) (ur_2.1 17) (ur_2.1 20) z0), ((ur_2.1 12), cT (ur_2.1 15) (ur_2.1 18) (ur_2.1 21) z0), ((ur_2.1 13), .inl (g.2.1, 8, .inl tp0)), ((ur_2.1 14), .inl (g.2.1, 8, .inl tp0)), ((ur_2.1 15), .inl (g.2.1, 8, .inl tp0)), ((ur_2.1 16), .inl (g.2.1, 8, .inl z0)), ((ur_2.1 17), .inl (g.2.1, 8, .inl z0)), ((ur_2.1 18), .inl (g.2.1, 8, .inl z0)), ((ur_2.1 19), .inl (g.2.1, 8, .inl z0)), ((ur_2.1 20), .inl (g.2.1, 8, .inl z0)), ((ur_2.1 21), .inl (g.2.1, 8, .inl z0)), ((ur_2.2 0), cE (ur_2.2 1) (ur_2.2 7) (ur_2.1 0) z0), ((ur_2.2 1), cA (ur_2.2 2) al4), ((ur_2.2 2), .inl (g.2.2.1, 10, .inr (.inr (.inr (.inr (vq ur_2.2)))))), ((ur_2.2 3), cV v0), ((ur_2.2 4), cV v0), ((ur_2.2 5), cV v0), ((ur_2.2 6), cV v0), ((ur_2.2 7), .inl (g.2.1, 200, .inl z0)), (a_3, cO (ur_4 0) z0), ((ur_4 0), cD ur_4 di0 0), ((ur_4 1), .inl (g.2.1, 32, .inl (d0 1))), ((ur_4 2), .inl (g.2.1, 48, .inl (d0 2))), ((ur_4 3), .inl (g.2.1, 4, .inl (d0 3))), ((ur_4 4), .inl (g.2.1, 4, .inl (d0 4))), ((ur_4 5), .inl (g.2.1, 4, .inl (d0 5))), ((ur_4 6), .inl (g.2.1, 4, .inl (d0 6))), ((ur_4 7), .inl (g.2.1, 4, .inl (d0 7))), ((ur_4 8), .inl (g.2.1, 4, .inl (d0 8))), ((ur_4 9), .inl (g.2.1, 4, .inl (d0 9))), ((ur_4 10), .inl (g.2.1, 4, .inl (d0 10))), ((ur_4 11), .inl (g.2.1, 4, .inl (d0 11))), ((ur_4 12), .inl (g.2.1, 4, .inl (d0 12))), ((ur_4 13), .inl (g.2.1, 4, .inl (d0 13))), ((ur_4 14), .inl (g.2.1, 200, .inl (d0 14))), ((ur_4 15), .inl (g.2.1, 3, .inl (d0 15))), ((ur_4 16), .inl (g.2.1, 72, .inl (d0 16))), ((ur_4 17), .inl (g.2.1, 64, .inl (d0 17)))]) rfl ?_
  refine g_astore_n B 2 [(2, .ref a_3), (1, .ref (ur_2.1 0)), (0, .ref b)] dL_law_15 rfl (Nat.le_of_ble_eq_true rfl) rfl ?_
  refine g_iconst (v := 1) B dL_law_16 kc_1 ?_
  refine g_newl B 1 q1321 (by decide) (by decide) (Nat.le_of_ble_eq_true rfl) (Nat.le_of_ble_eq_true rfl) (Nat.le_of_ble_eq_true rfl) dL_law_17 (fun a_5 => ?_)
  refine g_astore_n B 3 [(3, .ref a_5), (2, .ref a_3), (1, .ref (ur_2.1 0)), (0, .ref b)] dL_law_19 rfl (Nat.le_of_ble_eq_true rfl) rfl ?_
  refine g_iconst (v := 0) B dL_law_20 kc_0 ?_
  refine g_istore B [(4, .int 0), (3, .ref a_5), (2, .ref a_3), (1, .ref (ur_2.1 0)), (0, .ref b)] dL_law_21 (Nat.le_of_ble_eq_true rfl) rfl ?_
  refine g_eqw (ws' := [((ur_2.1 0), cM ur_2.1 (ur_2.2 0) mi0 0 0), ((ur_2.1 22), .inl (g.2.1, 64, .inl z0)), ((ur_2.1 1), .inl (g.2.1, 32, .inl z0)), ((ur_2.1 2), cA (ur_2.1 3) al4), ((ur_2.1 3), .inl (g.2.2.1, 10, .inr (.inr (.inr (.inr (iq ur_2.1)))))), ((ur_2.1 4), cI ((fun _ => i0) 0)), ((ur_2.1 5), cI ((fun _ => i0) 1)), ((ur_2.1 6), cI ((fun _ => i0) 2)), ((ur_2.1 7), cI ((fun _ => i0) 3)), ((ur_2.1 8), cA (ur_2.1 9) al3), ((ur_2.1 9), .inl (g.2.2.1, 10, .inr (.inr (.inr (.inr (tq ur_2.1)))))), ((ur_2.1 10), cT (ur_2.1 13) (ur_2.1 16) (ur_2.1 19) ((fun _ => z0) 0)), ((ur_2.1 11), cT (ur_2.1 14) (ur_2.1 17) (ur_2.1 20) ((fun _ => z0) 1)), ((ur_2.1 12), cT (ur_2.1 15) (ur_2.1 18) (ur_2.1 21) ((fun _ => z0) 2)), ((ur_2.1 13), .inl (g.2.1, 8, .inl (tw0 0 0))), ((ur_2.1 14), .inl (g.2.1, 8, .inl (tw0 1 0))), ((ur_2.1 15), .inl (g.2.1, 8, .inl (tw0 2 0))), ((ur_2.1 16), .inl (g.2.1, 8, .inl (tw0 0 1))), ((ur_2.1 17), .inl (g.2.1, 8, .inl (tw0 1 1))), ((ur_2.1 18), .inl (g.2.1, 8, .inl (tw0 2 1))), ((ur_2.1 19), .inl (g.2.1, 8, .inl (tw0 0 2))), ((ur_2.1 20), .inl (g.2.1, 8, .inl (tw0 1 2))), ((ur_2.1 21), .inl (g.2.1, 8, .inl (tw0 2 2))), ((ur_2.2 0), cE (ur_2.2 1) (ur_2.2 7) (ur_2.1 0) z0), ((ur_2.2 1), cA (ur_2.2 2) al4), ((ur_2.2 2), .inl (g.2.2.1, 10, .inr (.inr (.inr (.inr (vq ur_2.2)))))), ((ur_2.2 3), cV ((fun _ => v0) 0)), ((ur_2.2 4), cV ((fun _ => v0) 1)), ((ur_2.2 5), cV ((fun _ => v0) 2)), ((ur_2.2 6), cV ((fun _ => v0) 3)), ((ur_2.2 7), .inl (g.2.1, 200, .inl z0)), (a_3, cO (ur_4 0) z0), ((ur_4 0), cD ur_4 di0 0), ((ur_4 1), .inl (g.2.1, 32, .inl (d0 1))), ((ur_4 2), .inl (g.2.1, 48, .inl (d0 2))), ((ur_4 3), .inl (g.2.1, 4, .inl (d0 3))), ((ur_4 4), .inl (g.2.1, 4, .inl (d0 4))), ((ur_4 5), .inl (g.2.1, 4, .inl (d0 5))), ((ur_4 6), .inl (g.2.1, 4, .inl (d0 6))), ((ur_4 7), .inl (g.2.1, 4, .inl (d0 7))), ((ur_4 8), .inl (g.2.1, 4, .inl (d0 8))), ((ur_4 9), .inl (g.2.1, 4, .inl (d0 9))), ((ur_4 10), .inl (g.2.1, 4, .inl (d0 10))), ((ur_4 11), .inl (g.2.1, 4, .inl (d0 11))), ((ur_4 12), .inl (g.2.1, 4, .inl (d0 12))), ((ur_4 13), .inl (g.2.1, 4, .inl (d0 13))), ((ur_4 14), .inl (g.2.1, 200, .inl (d0 14))), ((ur_4 15), .inl (g.2.1, 3, .inl (d0 15))), ((ur_4 16), .inl (g.2.1, 72, .inl (d0 16))), ((ur_4 17), .inl (g.2.1, 64, .inl (d0 17))), (a_5, .inl (g.2.2.2.1, 1, .inr (.inl (fun _ => 0))))]) rfl ?_
  refine g_lvq (lv' := [(4, .int (nI (6 * 0))), (3, .ref a_5), (2, .ref a_3), (1, .ref (ur_2.1 0)), (0, .ref b)]) (by first | rfl | rw [nI_0]) ?_
  refine g_widen (k := 1000) (n := 3000) (by omega) (by omega) ?_
  exact hk ur_2.1 ur_2.2 ur_4 a_3 a_5 mi0 0 0 z0 z0 (fun _ => i0) (fun _ => z0) tw0 z0 (fun _ => v0) z0 z0 d0 di0 0 (fun _ => 0) S_init

set_option maxRecDepth 100000 in
theorem law_out {p : Program} {l : Launch} {e : Env} {s : State} {m : MethodId} {below : List Frame} {meth : Method} {c : Code} {Q : State → Prop} {g : gG} {A : Nat → Prop} {b L : Nat} {xs : Nat → Int32} (B : gB p l s m #[Value.ref b] meth c RX0 cL_law 9 g A) (X : va_X b L xs s s.heap) (hbs : b < s.heap.size) (hbA : ¬ A b) {ad ed dd : Nat → Nat} {mo ou t N cb sb : Nat} (hL : L ≤ 384) (ht : ¬ 6 * t + 6 ≤ L) (ht2 : t ≤ 64) (hout : ∀ (H : Heap) (locs : List Loc) (ls : Array Slot), va_S A s.heap H locs → W p l e room_1 s m #[Value.ref b] below meth c H locs cb sb Q (F0 m 1998 ls [.int 1])) : lwG p l e s m below meth c Q g A b ad ed dd mo ou t 23 N cb sb := by
  intro mi lo su dr hd ig tr tw en vf rw th da di sm fo S
  refine g_iload B 0 dL_law_23 rfl ?_
  refine g_aload_n B 0 4 dL_law_25 rfl rfl ?_
  refine g_slen B X hbs hbA dL_law_26 ?_
  refine g_bipush (v := 6) B dL_law_27 kb_6 ?_
  refine g_isub B dL_law_29 ?_
  refine g_icmp_gt_T (tgt := 1997) B dL_law_30 (by decide) (lw_stop ht hL ht2) ?_
  refine g_iconst (v := 1) B dL_law_1997 kc_1 ?_
  exact fun H locs ls hP hD hS hl => hout H locs ls hS
set_option maxHeartbeats 4000000 in
set_option maxRecDepth 100000 in
theorem law_loop {p : Program} {l : Launch} {e : Env} {s : State} {m : MethodId} {below : List Frame} {meth : Method} {c : Code} {Q : State → Prop} {g : gG} {A : Nat → Prop} {b L : Nat} {xs : Nat → Int32} (B : gB p l s m #[Value.ref b] meth c RX0 cL_law 9 g A) (X : va_X b L xs s s.heap) (hbs : b < s.heap.size) (hbA : ¬ A b) {ad ed dd : Nat → Nat} {mo ou : Nat} (hL : L ≤ 384) (hout : ∀ (H : Heap) (locs : List Loc) (ls : Array Slot) (k n : Nat), k ≤ 200000 → n ≤ 2000000 → va_S A s.heap H locs → W p l e room_1 s m #[Value.ref b] below meth c H locs k n Q (F0 m 1998 ls [.int 1])) : ∀ d t : Nat, t + d = 64 → lwG p l e s m below meth c Q g A b ad ed dd mo ou t 23 (201 * t) (1000 + 2000 * t) (3000 + 30000 * t) := by
  intro d
  induction d with
  | zero =>
    intro t h
    exact law_out B X hbs hbA hL (by omega) (by omega) (fun H locs ls hS => hout H locs ls _ _ (by omega) (by omega) hS)
  | succ d ihd =>
    intro t h
    by_cases hq : 6 * t + 6 ≤ L
    · refine law_23 B X hbs hbA (by omega) hL hq (by omega) (by omega) ?_
      intro mi lo su dr hd ig tr tw en vf rw th da di sm fo S
      refine g_iinc B 0 (nI (6 * (t + 1))) (lwL ad b mo ou (t + 1)) dL_law_1991 rfl (by rw [show Int32.ofInt 6 = nI 6 from by decide, nI_add]; exact congrArg nI (by omega)) (Nat.le_of_ble_eq_true rfl) rfl ?_
      refine g_goto (tgt := 23) B dL_law_1994 (by decide) ?_
      refine g_widen (k := 1000 + 2000 * (t + 1)) (n := 3000 + 30000 * (t + 1)) (by omega) (by omega) ?_
      exact ihd (t + 1) (by omega) mi lo su dr hd ig tr tw en vf rw th da di sm fo (Sim_mono S (by omega))
    · exact law_out B X hbs hbA hL hq (by omega) (fun H locs ls hS => hout H locs ls _ _ (by omega) (by omega) hS)
