/-! contracts: JDK leaves, voices -/
set_option maxRecDepth 100000
theorem kb_127 : (Int8.ofInt 127).toInt32 = 127 := by decide
theorem kc_0 : Int32.ofInt 0 = 0 := by decide
theorem kc_1 : Int32.ofInt 1 = 1 := by decide
theorem kc_2 : Int32.ofInt 2 = 2 := by decide
theorem kc_3 : Int32.ofInt 3 = 3 := by decide
theorem kc_4 : Int32.ofInt 4 = 4 := by decide
theorem it_1 : (1 : Int32).toInt = 1 := by decide
theorem it_2 : (2 : Int32).toInt = 2 := by decide
theorem it_3 : (3 : Int32).toInt = 3 := by decide
theorem ks_256 : (Int16.ofInt 256).toInt32 = 256 := by decide
theorem ks_1000 : (Int16.ofInt 1000).toInt32 = 1000 := by decide
theorem ks_4000 : (Int16.ofInt 4000).toInt32 = 4000 := by decide
theorem nsJ13_checkIndex : yJ13_checkIndex.cls ≠ "java/lang/invoke/MethodHandle" ∧ yJ13_checkIndex.cls ≠ "java/lang/invoke/VarHandle" ∧ (parseMethodDescriptor yJ13_checkIndex.desc).map (fun d => d.parameters.length) = some 2 := by decide +kernel
theorem nsJ14_checkIndex : yJ14_checkIndex.cls ≠ "java/lang/invoke/MethodHandle" ∧ yJ14_checkIndex.cls ≠ "java/lang/invoke/VarHandle" ∧ (parseMethodDescriptor yJ14_checkIndex.desc).map (fun d => d.parameters.length) = some 3 := by decide +kernel
theorem nsX1_kept : yX1_kept.cls ≠ "java/lang/invoke/MethodHandle" ∧ yX1_kept.cls ≠ "java/lang/invoke/VarHandle" ∧ (parseMethodDescriptor yX1_kept.desc).map (fun d => d.parameters.length) = some 2 := by decide +kernel
theorem nvJ2_elementData : yJ2_elementData.cls = RJ2 ∧ yJ2_elementData.cls ≠ "java/lang/invoke/MethodHandle" ∧ yJ2_elementData.cls ≠ "java/lang/invoke/VarHandle" ∧ (parseMethodDescriptor yJ2_elementData.desc).map (fun d => d.parameters.length) = some 1 := by decide +kernel
set_option maxHeartbeats 4000000 in
set_option maxRecDepth 100000 in
theorem m_J14_checkIndex (l : Launch) (hst : l.stackTraces = false) (g : gG) (i n : Int32) (k1 : ¬ i < 0) (k2 : i < n) : gMi l yJ14_checkIndex cJ14_checkIndex 3 .int 0 0 0 0 g [] [.int i, .int n, .null] (fun (r : Int32) (_ : Unit) => r = i) (fun _ : Unit => []) := by
  intro sz
  refine g_ent (by decide) hst [(0, .int i), (1, .int n), (2, .null)] (Nat.le_of_ble_eq_true rfl) rfl ?_
  intro p e s m below meth c B hr hnm hsz
  have B : gB p l s m ([.int i, .int n, .null] : List Value).toArray meth c RJ14 cJ14_checkIndex 3 g (va_A [] sz) := B
  refine g_iload_n B 0 0 dJ14_checkIndex_0 rfl rfl ?_
  refine g_if_lt_F (tgt := 9) B dJ14_checkIndex_1 (by decide) k1 ?_
  refine g_iload_n B 0 0 dJ14_checkIndex_4 rfl rfl ?_
  refine g_iload_n B 1 1 dJ14_checkIndex_5 rfl rfl ?_
  refine g_icmp_lt_T (tgt := 16) B dJ14_checkIndex_6 (by decide) k2 ?_
  refine g_iload_n B 0 0 dJ14_checkIndex_16 rfl rfl ?_
  exact g_iret B hr dJ14_checkIndex_17 (Nat.le_of_ble_eq_true rfl) (Nat.le_of_ble_eq_true rfl) () rfl [] rfl rfl

set_option maxHeartbeats 4000000 in
set_option maxRecDepth 100000 in
theorem m_J13_checkIndex (l : Launch) (hst : l.stackTraces = false) (g : gG) (i n : Int32) (k1 : ¬ i < 0) (k2 : i < n) : gMi l yJ13_checkIndex cJ13_checkIndex 2 .int 1 22 0 0 g [] [.int i, .int n] (fun (r : Int32) (_ : Unit) => r = i) (fun _ : Unit => []) := by
  intro sz
  refine g_ent (by decide) hst [(0, .int i), (1, .int n)] (Nat.le_of_ble_eq_true rfl) rfl ?_
  intro p e s m below meth c B hr hnm hsz
  have B : gB p l s m ([.int i, .int n] : List Value).toArray meth c RJ13 cJ13_checkIndex 2 g (va_A [] sz) := B
  refine g_iload_n B 0 0 dJ13_checkIndex_0 rfl rfl ?_
  refine g_iload_n B 1 1 dJ13_checkIndex_1 rfl rfl ?_
  refine g_null B dJ13_checkIndex_2 ?_
  refine g_cuS_i (As := [.int i, .int n, .null]) B (m_J14_checkIndex l hst g i n k1 k2) [] [] (lw_S q417 q418 q48 q419) nsJ14_checkIndex rfl rfl rfl rfl (Nat.le_of_ble_eq_true rfl) dJ13_checkIndex_3 ⟨Nat.le_of_ble_eq_true rfl, Nat.le_of_ble_eq_true rfl⟩ ⟨Nat.le_of_ble_eq_true rfl, Nat.le_of_ble_eq_true rfl⟩ (fun r_1 ur_1 hr_1 => ?_)
  obtain rfl : i = r_1 := hr_1.symm
  exact g_iret B hr dJ13_checkIndex_6 (Nat.le_of_ble_eq_true rfl) (Nat.le_of_ble_eq_true rfl) () rfl [] rfl rfl

set_option maxHeartbeats 4000000 in
set_option maxRecDepth 100000 in
theorem m_J2_elementData (l : Launch) (hst : l.stackTraces = false) (g : gG) (h0 h1 : Nat) (ai : Nat → Int32) (n : Nat) (f : Nat → Option Nat) (i : Int32) (k a : Nat) (hk : i.toNatClampNeg = k) (k3 : vp_in i n) (k4 : f k = some a) : gMq l yJ2_elementData cJ2_elementData 2 (.object "java/lang/Object") 0 0 0 0 g [(h0, cA h1 ai), (h1, .inl (g.2.2.1, n, .inr (.inr (.inr (.inr f)))))] [.ref h0, .int i] (fun (r : Option Nat) (_ : Unit) => r = some a) (fun _ : Unit => [(h0, cA h1 ai), (h1, .inl (g.2.2.1, n, .inr (.inr (.inr (.inr f)))))]) := by
  intro sz
  refine g_ent (by decide) hst [(0, .ref h0), (1, .int i)] (Nat.le_of_ble_eq_true rfl) rfl ?_
  intro p e s m below meth c B hr hnm hsz
  have B : gB p l s m ([.ref h0, .int i] : List Value).toArray meth c RJ2 cJ2_elementData 2 g (va_A [(h0, cA h1 ai), (h1, .inl (g.2.2.1, n, .inr (.inr (.inr (.inr f)))))] sz) := B
  refine g_aload_n B 0 0 dJ2_elementData_0 rfl rfl ?_
  refine g_get (C := RJ2) (T := TJ2) (N := 3) B 7 0 1 (.ref h1) in_J2 rfl q71 rfl (Nat.le_of_ble_eq_true rfl) (fun _ h9 => h9) rfl dJ2_elementData_1 ?_
  refine g_iload_n B 1 1 dJ2_elementData_4 rfl rfl ?_
  refine g_aldq B 1 a rfl k3 (by rw [hk]; exact k4) dJ2_elementData_5 ?_
  exact g_qret B hr (Or.inl ⟨_, rfl⟩) dJ2_elementData_6 (Nat.le_of_ble_eq_true rfl) (Nat.le_of_ble_eq_true rfl) () rfl [0, 1] rfl rfl

set_option maxHeartbeats 4000000 in
set_option maxRecDepth 100000 in
theorem m_J2_get (l : Launch) (hst : l.stackTraces = false) (g : gG) (h0 h1 : Nat) (ai : Nat → Int32) (n : Nat) (f : Nat → Option Nat) (i : Int32) (k a : Nat) (k1 : ¬ i < 0) (k2 : i < ai 1) (hk : i.toNatClampNeg = k) (k3 : vp_in i n) (k4 : f k = some a) : gMq l yJ2_get cJ2_get 2 (.object "java/lang/Object") 2 43 0 0 g [(h0, cA h1 ai), (h1, .inl (g.2.2.1, n, .inr (.inr (.inr (.inr f)))))] [.ref h0, .int i] (fun (r : Option Nat) (_ : Unit) => r = some a) (fun _ : Unit => [(h0, cA h1 ai), (h1, .inl (g.2.2.1, n, .inr (.inr (.inr (.inr f)))))]) := by
  intro sz
  refine g_ent (by decide) hst [(0, .ref h0), (1, .int i)] (Nat.le_of_ble_eq_true rfl) rfl ?_
  intro p e s m below meth c B hr hnm hsz
  have B : gB p l s m ([.ref h0, .int i] : List Value).toArray meth c RJ2 cJ2_get 2 g (va_A [(h0, cA h1 ai), (h1, .inl (g.2.2.1, n, .inr (.inr (.inr (.inr f)))))] sz) := B
  refine g_iload_n B 1 1 dJ2_get_0 rfl rfl ?_
  refine g_aload_n B 0 0 dJ2_get_1 rfl rfl ?_
  refine g_get (C := RJ2) (T := TJ2) (N := 3) B 7 0 2 (.int (ai 1)) in_J2 rfl q72 rfl (Nat.le_of_ble_eq_true rfl) (fun _ h9 => h9) rfl dJ2_get_2 ?_
  refine g_cuS_i (As := [.int i, .int (ai 1)]) B (m_J13_checkIndex l hst g i (ai 1) k1 k2) [] [] (lw_S q414 q415 q47 q416) nsJ13_checkIndex rfl rfl rfl rfl (Nat.le_of_ble_eq_true rfl) dJ2_get_5 ⟨Nat.le_of_ble_eq_true rfl, Nat.le_of_ble_eq_true rfl⟩ ⟨Nat.le_of_ble_eq_true rfl, Nat.le_of_ble_eq_true rfl⟩ (fun r_1 ur_1 hr_1 => ?_)
  obtain rfl : i = r_1 := hr_1.symm
  refine g_pop B dJ2_get_8 rfl ?_
  refine g_aload_n B 0 0 dJ2_get_9 rfl rfl ?_
  refine g_iload_n B 1 1 dJ2_get_10 rfl rfl ?_
  refine g_cuV_q (C := RJ2) (T := TJ2) (N := 3) (As := [.int i]) B (m_J2_elementData l hst g h0 h1 ai n f i k a hk k3 k4) 7 0 rfl rfl [0, 1] [] (lw_V q420 q421 q422 q29 q423) nvJ2_elementData rfl rfl rfl rfl (Nat.le_of_ble_eq_true rfl) dJ2_get_11 ⟨Nat.le_of_ble_eq_true rfl, Nat.le_of_ble_eq_true rfl⟩ ⟨Nat.le_of_ble_eq_true rfl, Nat.le_of_ble_eq_true rfl⟩ (fun r_2 ur_2 hr_2 => ?_)
  obtain rfl : some a = r_2 := (hr_2).symm
  refine g_eqs (st' := [.ref a]) rfl ?_
  exact g_qret B hr (Or.inl ⟨_, rfl⟩) dJ2_get_14 (Nat.le_of_ble_eq_true rfl) (Nat.le_of_ble_eq_true rfl) () rfl [0, 1] rfl rfl

set_option maxHeartbeats 4000000 in
set_option maxRecDepth 100000 in
theorem m_J4_floorMod (l : Launch) (hst : l.stackTraces = false) (g : gG) (x y : Int32) (k : ¬ y = 0) : gMi l yJ4_floorMod cJ4_floorMod 3 .int 0 0 0 0 g [] [.int x, .int y] (fun (r : Int32) (_ : Unit) => r = pfm x y) (fun _ : Unit => []) := by
  intro sz
  refine g_entF (by decide +kernel) hst [(0, .int x), (1, .int y)] (Nat.le_of_ble_eq_true rfl) rfl ?_
  intro p e s m below meth c B hr hnm hsz
  have B : gB p l s m ([.int x, .int y] : List Value).toArray meth c RJ4 cJ4_floorMod 3 g (va_A [] sz) := B
  refine g_iload_n B 0 0 dJ4_floorMod_0 rfl rfl ?_
  refine g_iload_n B 1 1 dJ4_floorMod_1 rfl rfl ?_
  refine g_irem B dJ4_floorMod_2 k ?_
  refine g_istore_n B 2 [(2, .int (prm x y)), (0, .int x), (1, .int y)] dJ4_floorMod_3 rfl (Nat.le_of_ble_eq_true rfl) rfl ?_
  refine g_iload_n B 0 1 dJ4_floorMod_4 rfl rfl ?_
  refine g_iload_n B 1 2 dJ4_floorMod_5 rfl rfl ?_
  refine g_ixor B dJ4_floorMod_6 ?_
  refine g_if_ge (tgt := 18) B dJ4_floorMod_7 (by decide) (fun c_1 => ?_) (fun c_1 => ?_)
  · skip
    refine g_iload_n B 2 0 dJ4_floorMod_18 rfl rfl ?_
    exact g_iret B hr dJ4_floorMod_19 (Nat.le_of_ble_eq_true rfl) (Nat.le_of_ble_eq_true rfl) () (by first | (simp only [pfm, if_pos c_1]; done) | (simp only [pfm, if_pos c_1]; rfl) | rfl) [] rfl rfl
  · skip
    refine g_iload_n B 2 0 dJ4_floorMod_10 rfl rfl ?_
    refine g_if_eq (tgt := 18) B dJ4_floorMod_11 (by decide) (fun c_2 => ?_) (fun c_2 => ?_)
    · skip
      refine g_iload_n B 2 0 dJ4_floorMod_18 rfl rfl ?_
      exact g_iret B hr dJ4_floorMod_19 (Nat.le_of_ble_eq_true rfl) (Nat.le_of_ble_eq_true rfl) () (by first | (simp only [pfm, if_neg c_1, if_pos c_2]; done) | (simp only [pfm, if_neg c_1, if_pos c_2]; rfl) | rfl) [] rfl rfl
    · skip
      refine g_iload_n B 2 0 dJ4_floorMod_14 rfl rfl ?_
      refine g_iload_n B 1 2 dJ4_floorMod_15 rfl rfl ?_
      refine g_iadd B dJ4_floorMod_16 ?_
      refine g_topi (fun x_3 ex_3 => ?_)
      subst ex_3
      exact g_iret B hr dJ4_floorMod_17 (Nat.le_of_ble_eq_true rfl) (Nat.le_of_ble_eq_true rfl) () (by first | (simp only [pfm, if_neg c_1, if_neg c_2]; done) | (simp only [pfm, if_neg c_1, if_neg c_2]; rfl) | rfl) [] rfl rfl

set_option maxHeartbeats 4000000 in
set_option maxRecDepth 100000 in
theorem m_X1_kept (l : Launch) (hst : l.stackTraces = false) (g : gG) (x k : Int32) : gMi l yX1_kept cX1_kept 2 .int 1 24 0 0 g [] [.int x, .int k] (fun (r : Int32) (_ : Unit) => r = pkp x k) (fun _ : Unit => []) := by
  intro sz
  refine g_ent (by decide) hst [(0, .int x), (1, .int k)] (Nat.le_of_ble_eq_true rfl) rfl ?_
  intro p e s m below meth c B hr hnm hsz
  have B : gB p l s m ([.int x, .int k] : List Value).toArray meth c RX1 cX1_kept 2 g (va_A [] sz) := B
  refine g_iload_n B 1 1 dX1_kept_0 rfl rfl ?_
  refine g_ineg B dX1_kept_1 ?_
  refine g_iload_n B 1 1 dX1_kept_2 rfl rfl ?_
  refine g_iload_n B 0 0 dX1_kept_3 rfl rfl ?_
  refine g_mmin B q515 q251 q33 q252 (Nat.le_of_ble_eq_true rfl) (Nat.le_of_ble_eq_true rfl) (Nat.le_of_ble_eq_true rfl) (Nat.le_of_ble_eq_true rfl) dX1_kept_4 ?_
  refine g_mmax B q516 q220 q33 q221 (Nat.le_of_ble_eq_true rfl) (Nat.le_of_ble_eq_true rfl) (Nat.le_of_ble_eq_true rfl) (Nat.le_of_ble_eq_true rfl) dX1_kept_7 ?_
  refine g_topi (fun x_1 ex_1 => ?_)
  subst ex_1
  exact g_iret B hr dX1_kept_10 (Nat.le_of_ble_eq_true rfl) (Nat.le_of_ble_eq_true rfl) () rfl [] rfl rfl

set_option maxHeartbeats 4000000 in
set_option maxRecDepth 100000 in
theorem m_X5_isFree (l : Launch) (hst : l.stackTraces = false) (g : gG) (h0 : Nat) (f : Nat → Int32) : gMi l yX5_isFree cX5_isFree 1 .boolean 0 0 0 0 g [(h0, cV f)] [.ref h0] (fun (r : Int32) (_ : Unit) => r = v_free f) (fun _ : Unit => [(h0, cV f)]) := by
  intro sz
  refine g_ent (by decide) hst [(0, .ref h0)] (Nat.le_of_ble_eq_true rfl) rfl ?_
  intro p e s m below meth c B hr hnm hsz
  have B : gB p l s m ([.ref h0] : List Value).toArray meth c RX5 cX5_isFree 1 g (va_A [(h0, cV f)] sz) := B
  refine g_aload_n B 0 0 dX5_isFree_0 rfl rfl ?_
  refine g_get (C := RX5) (T := TX5) (N := 11) B 4 0 0 (.int (f 0)) in_X5 rfl q290 rfl (Nat.le_of_ble_eq_true rfl) (fun _ h9 => h9) rfl dX5_isFree_1 ?_
  refine g_if_ne (tgt := 11) B dX5_isFree_4 (by decide) (fun c_1 => ?_) (fun c_1 => ?_)
  · skip
    refine g_iconst (v := 0) B dX5_isFree_11 kc_0 ?_
    exact g_zret B hr rfl dX5_isFree_12 (Nat.le_of_ble_eq_true rfl) (Nat.le_of_ble_eq_true rfl) () (by first | (simp only [v_free, if_neg c_1]; done) | (simp only [v_free, if_neg c_1]; rfl) | rfl) [0] rfl rfl
  · skip
    refine g_iconst (v := 1) B dX5_isFree_7 kc_1 ?_
    refine g_goto (tgt := 12) B dX5_isFree_8 (by decide) ?_
    exact g_zret B hr rfl dX5_isFree_12 (Nat.le_of_ble_eq_true rfl) (Nat.le_of_ble_eq_true rfl) () (by first | (simp only [v_free, if_pos c_1]; done) | (simp only [v_free, if_pos c_1]; rfl) | rfl) [0] rfl rfl

set_option maxHeartbeats 4000000 in
set_option maxRecDepth 100000 in
theorem m_X5_end (l : Launch) (hst : l.stackTraces = false) (g : gG) (h0 : Nat) (f : Nat → Int32) : gMv l yX5_end cX5_end 1 0 0 0 0 g [(h0, cV f)] [.ref h0] (fun (_ : Unit) => True) (fun _ : Unit => [(h0, cV (v_end f))]) := by
  intro sz
  refine g_ent (by decide) hst [(0, .ref h0)] (Nat.le_of_ble_eq_true rfl) rfl ?_
  intro p e s m below meth c B hr hnm hsz
  have B : gB p l s m ([.ref h0] : List Value).toArray meth c RX5 cX5_end 1 g (va_A [(h0, cV f)] sz) := B
  refine g_aload_n B 0 0 dX5_end_0 rfl rfl ?_
  refine g_get (C := RX5) (T := TX5) (N := 11) B 4 0 0 (.int (f 0)) in_X5 rfl q290 rfl (Nat.le_of_ble_eq_true rfl) (fun _ h9 => h9) rfl dX5_end_1 ?_
  refine g_if_eq (tgt := 12) B dX5_end_4 (by decide) (fun c_1 => ?_) (fun c_1 => ?_)
  · skip
    exact g_vret B hr dX5_end_12 (Nat.le_of_ble_eq_true rfl) (Nat.le_of_ble_eq_true rfl) () trivial [0] rfl (by first | (simp only [v_end, if_pos c_1]; rfl) | rfl)
  · skip
    refine g_aload_n B 0 0 dX5_end_7 rfl rfl ?_
    refine g_iconst (v := 4) B dX5_end_8 kc_4 ?_
    refine g_put (C := RX5) (T := TX5) (N := 11) (ty := .int) (v := .int 4) B 4 0 0 [(h0, cV (upd f 0 4))] in_X5 tyX5 tyX5_ok nmX5 rfl q290 rfl (Nat.le_of_ble_eq_true rfl) (fun _ h9 => h9) rfl rfl rfl rfl (Nat.le_of_ble_eq_true rfl) rfl dX5_end_9 ?_
    exact g_vret B hr dX5_end_12 (Nat.le_of_ble_eq_true rfl) (Nat.le_of_ble_eq_true rfl) () trivial [0] rfl (by first | (simp only [v_end, if_neg c_1]; rfl) | rfl)

set_option maxHeartbeats 4000000 in
set_option maxRecDepth 100000 in
theorem m_X5_begin (l : Launch) (hst : l.stackTraces = false) (g : gG) (h0 : Nat) (f : Nat → Int32) (i pi fo ga b : Int32) : gMv l yX5_begin cX5_begin 6 0 0 0 0 g [(h0, cV f)] [.ref h0, .int i, .int pi, .int fo, .int ga, .int b] (fun (_ : Unit) => True) (fun _ : Unit => [(h0, cV (v_begin f i pi fo ga b))]) := by
  intro sz
  refine g_ent (by decide) hst [(0, .ref h0), (1, .int i), (2, .int pi), (3, .int fo), (4, .int ga), (5, .int b)] (Nat.le_of_ble_eq_true rfl) rfl ?_
  intro p e s m below meth c B hr hnm hsz
  have B : gB p l s m ([.ref h0, .int i, .int pi, .int fo, .int ga, .int b] : List Value).toArray meth c RX5 cX5_begin 6 g (va_A [(h0, cV f)] sz) := B
  refine g_aload_n B 0 0 dX5_begin_0 rfl rfl ?_
  refine g_iconst (v := 1) B dX5_begin_1 kc_1 ?_
  refine g_put (C := RX5) (T := TX5) (N := 11) (ty := .int) (v := .int 1) B 4 0 0 [(h0, cV (upd f 0 1))] in_X5 tyX5 tyX5_ok nmX5 rfl q290 rfl (Nat.le_of_ble_eq_true rfl) (fun _ h9 => h9) rfl rfl rfl rfl (Nat.le_of_ble_eq_true rfl) rfl dX5_begin_2 ?_
  refine g_aload_n B 0 0 dX5_begin_5 rfl rfl ?_
  refine g_iload_n B 1 1 dX5_begin_6 rfl rfl ?_
  refine g_put (C := RX5) (T := TX5) (N := 11) (ty := .int) (v := .int i) B 4 0 2 [(h0, cV (upd (upd f 0 1) 2 i))] in_X5 tyX5 tyX5_ok nmX5 rfl q296 rfl (Nat.le_of_ble_eq_true rfl) (fun _ h9 => h9) rfl rfl rfl rfl (Nat.le_of_ble_eq_true rfl) rfl dX5_begin_7 ?_
  refine g_aload_n B 0 0 dX5_begin_10 rfl rfl ?_
  refine g_iload_n B 2 2 dX5_begin_11 rfl rfl ?_
  refine g_put (C := RX5) (T := TX5) (N := 11) (ty := .int) (v := .int pi) B 4 0 3 [(h0, cV (upd (upd (upd f 0 1) 2 i) 3 pi))] in_X5 tyX5 tyX5_ok nmX5 rfl q299 rfl (Nat.le_of_ble_eq_true rfl) (fun _ h9 => h9) rfl rfl rfl rfl (Nat.le_of_ble_eq_true rfl) rfl dX5_begin_12 ?_
  refine g_aload_n B 0 0 dX5_begin_15 rfl rfl ?_
  refine g_iload_n B 3 3 dX5_begin_16 rfl rfl ?_
  refine g_put (C := RX5) (T := TX5) (N := 11) (ty := .int) (v := .int fo) B 4 0 4 [(h0, cV (upd (upd (upd (upd f 0 1) 2 i) 3 pi) 4 fo))] in_X5 tyX5 tyX5_ok nmX5 rfl q302 rfl (Nat.le_of_ble_eq_true rfl) (fun _ h9 => h9) rfl rfl rfl rfl (Nat.le_of_ble_eq_true rfl) rfl dX5_begin_17 ?_
  refine g_aload_n B 0 0 dX5_begin_20 rfl rfl ?_
  refine g_iload B 4 dX5_begin_21 rfl ?_
  refine g_put (C := RX5) (T := TX5) (N := 11) (ty := .int) (v := .int ga) B 4 0 10 [(h0, cV (upd (upd (upd (upd (upd f 0 1) 2 i) 3 pi) 4 fo) 10 ga))] in_X5 tyX5 tyX5_ok nmX5 rfl q316 rfl (Nat.le_of_ble_eq_true rfl) (fun _ h9 => h9) rfl rfl rfl rfl (Nat.le_of_ble_eq_true rfl) rfl dX5_begin_23 ?_
  refine g_aload_n B 0 0 dX5_begin_26 rfl rfl ?_
  refine g_iload B 5 dX5_begin_27 rfl ?_
  refine g_put (C := RX5) (T := TX5) (N := 11) (ty := .int) (v := .int b) B 4 0 5 [(h0, cV (upd (upd (upd (upd (upd (upd f 0 1) 2 i) 3 pi) 4 fo) 10 ga) 5 b))] in_X5 tyX5 tyX5_ok nmX5 rfl q304 rfl (Nat.le_of_ble_eq_true rfl) (fun _ h9 => h9) rfl rfl rfl rfl (Nat.le_of_ble_eq_true rfl) rfl dX5_begin_29 ?_
  refine g_aload_n B 0 0 dX5_begin_32 rfl rfl ?_
  refine g_iconst (v := 0) B dX5_begin_33 kc_0 ?_
  refine g_put (C := RX5) (T := TX5) (N := 11) (ty := .int) (v := .int 0) B 4 0 6 [(h0, cV (upd (upd (upd (upd (upd (upd (upd f 0 1) 2 i) 3 pi) 4 fo) 10 ga) 5 b) 6 0))] in_X5 tyX5 tyX5_ok nmX5 rfl q306 rfl (Nat.le_of_ble_eq_true rfl) (fun _ h9 => h9) rfl rfl rfl rfl (Nat.le_of_ble_eq_true rfl) rfl dX5_begin_34 ?_
  refine g_aload_n B 0 0 dX5_begin_37 rfl rfl ?_
  refine g_iconst (v := 0) B dX5_begin_38 kc_0 ?_
  refine g_put (C := RX5) (T := TX5) (N := 11) (ty := .int) (v := .int 0) B 4 0 7 [(h0, cV (upd (upd (upd (upd (upd (upd (upd (upd f 0 1) 2 i) 3 pi) 4 fo) 10 ga) 5 b) 6 0) 7 0))] in_X5 tyX5 tyX5_ok nmX5 rfl q309 rfl (Nat.le_of_ble_eq_true rfl) (fun _ h9 => h9) rfl rfl rfl rfl (Nat.le_of_ble_eq_true rfl) rfl dX5_begin_39 ?_
  refine g_aload_n B 0 0 dX5_begin_42 rfl rfl ?_
  refine g_iconst (v := 0) B dX5_begin_43 kc_0 ?_
  refine g_put (C := RX5) (T := TX5) (N := 11) (ty := .int) (v := .int 0) B 4 0 8 [(h0, cV (upd (upd (upd (upd (upd (upd (upd (upd (upd f 0 1) 2 i) 3 pi) 4 fo) 10 ga) 5 b) 6 0) 7 0) 8 0))] in_X5 tyX5 tyX5_ok nmX5 rfl q312 rfl (Nat.le_of_ble_eq_true rfl) (fun _ h9 => h9) rfl rfl rfl rfl (Nat.le_of_ble_eq_true rfl) rfl dX5_begin_44 ?_
  refine g_aload_n B 0 0 dX5_begin_47 rfl rfl ?_
  refine g_iconst (v := 0) B dX5_begin_48 kc_0 ?_
  refine g_put (C := RX5) (T := TX5) (N := 11) (ty := .int) (v := .int 0) B 4 0 9 [(h0, cV (upd (upd (upd (upd (upd (upd (upd (upd (upd (upd f 0 1) 2 i) 3 pi) 4 fo) 10 ga) 5 b) 6 0) 7 0) 8 0) 9 0))] in_X5 tyX5 tyX5_ok nmX5 rfl q314 rfl (Nat.le_of_ble_eq_true rfl) (fun _ h9 => h9) rfl rfl rfl rfl (Nat.le_of_ble_eq_true rfl) rfl dX5_begin_49 ?_
  exact g_vret B hr dX5_begin_52 (Nat.le_of_ble_eq_true rfl) (Nat.le_of_ble_eq_true rfl) () trivial [0] rfl rfl

set_option maxHeartbeats 4000000 in
set_option maxRecDepth 100000 in
theorem m_X5_grow (l : Launch) (hst : l.stackTraces = false) (g : gG) (h0 h1 : Nat) (f ig : Nat → Int32) (z4 : ¬ ig 4 = 0) (z5 : ¬ ig 5 = 0) (z7 : ¬ ig 7 = 0) : gMv l yX5_grow cX5_grow 3 1 24 0 0 g [(h0, cV f), (h1, cI ig)] [.ref h0, .ref h1] (fun (_ : Unit) => True) (fun _ : Unit => [(h0, cV (v_grow ig f)), (h1, cI ig)]) := by
  intro sz
  refine g_ent (by decide) hst [(0, .ref h0), (1, .ref h1)] (Nat.le_of_ble_eq_true rfl) rfl ?_
  intro p e s m below meth c B hr hnm hsz
  have B : gB p l s m ([.ref h0, .ref h1] : List Value).toArray meth c RX5 cX5_grow 3 g (va_A [(h0, cV f), (h1, cI ig)] sz) := B
  refine g_sipush (v := 1000) B dX5_grow_0 ks_1000 ?_
  refine g_aload_n B 1 1 dX5_grow_3 rfl rfl ?_
  refine g_getN (C := RX3) (T := TX3) (N := 12) B 2 1 6 (.int (ig 6)) in_X3 rfl q159 rfl (Nat.le_of_ble_eq_true rfl) (fun _ h9 => h9) rfl dX5_grow_4 ?_
  refine g_imul B dX5_grow_7 ?_
  refine g_topi (fun x_1 ex_1 => ?_)
  refine g_istore_n B 2 [(2, .int x_1), (0, .ref h0), (1, .ref h1)] dX5_grow_8 rfl (Nat.le_of_ble_eq_true rfl) rfl ?_
  refine g_aload_n B 0 1 dX5_grow_9 rfl rfl ?_
  refine g_get (C := RX5) (T := TX5) (N := 11) B 4 0 0 (.int (f 0)) in_X5 rfl q290 rfl (Nat.le_of_ble_eq_true rfl) (fun _ h9 => h9) rfl dX5_grow_10 ?_
  by_cases c_2 : (f 0) = 1
  · skip
    refine g_tabIn (off := 27) (tgt := 40) B dX5_grow_13 (by rw [c_2]; decide) (by rw [c_2]; decide) (by rw [c_2]; decide) (by decide) ?_
    refine g_aload_n B 0 1 dX5_grow_40 rfl rfl ?_
    refine g_ldc (v := 1000000) B dX5_grow_41 q490 ?_
    refine g_aload_n B 0 1 dX5_grow_43 rfl rfl ?_
    refine g_get (C := RX5) (T := TX5) (N := 11) B 4 0 1 (.int (f 1)) in_X5 rfl q293 rfl (Nat.le_of_ble_eq_true rfl) (fun _ h9 => h9) rfl dX5_grow_44 ?_
    refine g_ldc (v := 1000000) B dX5_grow_47 q490 ?_
    refine g_aload_n B 1 2 dX5_grow_49 rfl rfl ?_
    refine g_getN (C := RX3) (T := TX3) (N := 12) B 2 1 4 (.int (ig 4)) in_X3 rfl q153 rfl (Nat.le_of_ble_eq_true rfl) (fun _ h9 => h9) rfl dX5_grow_50 ?_
    refine g_idiv B dX5_grow_53 z4 ?_
    refine g_iadd B dX5_grow_54 ?_
    refine g_mmin B q491 q251 q33 q252 (Nat.le_of_ble_eq_true rfl) (Nat.le_of_ble_eq_true rfl) (Nat.le_of_ble_eq_true rfl) (Nat.le_of_ble_eq_true rfl) dX5_grow_55 ?_
    refine g_topi (fun x_3 ex_3 => ?_)
    refine g_put (C := RX5) (T := TX5) (N := 11) (ty := .int) (v := .int x_3) B 4 0 1 [(h0, cV (upd f 1 x_3)), (h1, cI ig)] in_X5 tyX5 tyX5_ok nmX5 rfl q293 rfl (Nat.le_of_ble_eq_true rfl) (fun _ h9 => h9) rfl rfl rfl rfl (Nat.le_of_ble_eq_true rfl) rfl dX5_grow_58 ?_
    refine g_aload_n B 0 1 dX5_grow_61 rfl rfl ?_
    refine g_get (C := RX5) (T := TX5) (N := 11) B 4 0 1 (.int x_3) in_X5 rfl q293 rfl (Nat.le_of_ble_eq_true rfl) (fun _ h9 => h9) rfl dX5_grow_62 ?_
    refine g_ldc (v := 1000000) B dX5_grow_65 q490 ?_
    refine g_icmp_ne (tgt := 158) B dX5_grow_67 (by decide) (fun c_4 => ?_) (fun c_4 => ?_)
    · skip
      subst ex_1
      subst ex_3
      exact g_vret B hr dX5_grow_158 (Nat.le_of_ble_eq_true rfl) (Nat.le_of_ble_eq_true rfl) () trivial [0, 1] rfl (by first | (simp only [v_grow, v_g1, if_pos c_2, if_neg c_4]; rfl) | rfl)
    · skip
      refine g_aload_n B 0 1 dX5_grow_70 rfl rfl ?_
      refine g_iconst (v := 2) B dX5_grow_71 kc_2 ?_
      refine g_put (C := RX5) (T := TX5) (N := 11) (ty := .int) (v := .int 2) B 4 0 0 [(h0, cV (upd (upd f 1 x_3) 0 2)), (h1, cI ig)] in_X5 tyX5 tyX5_ok nmX5 rfl q290 rfl (Nat.le_of_ble_eq_true rfl) (fun _ h9 => h9) rfl rfl rfl rfl (Nat.le_of_ble_eq_true rfl) rfl dX5_grow_72 ?_
      refine g_goto (tgt := 158) B dX5_grow_75 (by decide) ?_
      subst ex_1
      subst ex_3
      exact g_vret B hr dX5_grow_158 (Nat.le_of_ble_eq_true rfl) (Nat.le_of_ble_eq_true rfl) () trivial [0, 1] rfl (by first | (simp only [v_grow, v_g1, if_pos c_2, if_pos c_4]; rfl) | rfl)
  by_cases c_5 : (f 0) = 2
  · skip
    refine g_tabIn (off := 65) (tgt := 78) B dX5_grow_13 (by rw [c_5]; decide) (by rw [c_5]; decide) (by rw [c_5]; decide) (by decide) ?_
    refine g_aload_n B 0 1 dX5_grow_78 rfl rfl ?_
    refine g_iload_n B 2 0 dX5_grow_79 rfl rfl ?_
    refine g_aload_n B 0 1 dX5_grow_80 rfl rfl ?_
    refine g_get (C := RX5) (T := TX5) (N := 11) B 4 0 1 (.int (f 1)) in_X5 rfl q293 rfl (Nat.le_of_ble_eq_true rfl) (fun _ h9 => h9) rfl dX5_grow_81 ?_
    refine g_ldc (v := 1000000) B dX5_grow_84 q490 ?_
    refine g_iload_n B 2 0 dX5_grow_86 rfl rfl ?_
    refine g_isub B dX5_grow_87 ?_
    refine g_aload_n B 1 2 dX5_grow_88 rfl rfl ?_
    refine g_getN (C := RX3) (T := TX3) (N := 12) B 2 1 5 (.int (ig 5)) in_X3 rfl q156 rfl (Nat.le_of_ble_eq_true rfl) (fun _ h9 => h9) rfl dX5_grow_89 ?_
    refine g_idiv B dX5_grow_92 z5 ?_
    refine g_isub B dX5_grow_93 ?_
    refine g_iconst (v := 1) B dX5_grow_94 kc_1 ?_
    refine g_isub B dX5_grow_95 ?_
    refine g_mmax B q492 q220 q33 q221 (Nat.le_of_ble_eq_true rfl) (Nat.le_of_ble_eq_true rfl) (Nat.le_of_ble_eq_true rfl) (Nat.le_of_ble_eq_true rfl) dX5_grow_96 ?_
    refine g_topi (fun x_6 ex_6 => ?_)
    refine g_put (C := RX5) (T := TX5) (N := 11) (ty := .int) (v := .int x_6) B 4 0 1 [(h0, cV (upd f 1 x_6)), (h1, cI ig)] in_X5 tyX5 tyX5_ok nmX5 rfl q293 rfl (Nat.le_of_ble_eq_true rfl) (fun _ h9 => h9) rfl rfl rfl rfl (Nat.le_of_ble_eq_true rfl) rfl dX5_grow_99 ?_
    refine g_aload_n B 0 1 dX5_grow_102 rfl rfl ?_
    refine g_get (C := RX5) (T := TX5) (N := 11) B 4 0 1 (.int x_6) in_X5 rfl q293 rfl (Nat.le_of_ble_eq_true rfl) (fun _ h9 => h9) rfl dX5_grow_103 ?_
    refine g_iload_n B 2 0 dX5_grow_106 rfl rfl ?_
    refine g_icmp_ne (tgt := 158) B dX5_grow_107 (by decide) (fun c_7 => ?_) (fun c_7 => ?_)
    · skip
      subst ex_1
      subst ex_6
      exact g_vret B hr dX5_grow_158 (Nat.le_of_ble_eq_true rfl) (Nat.le_of_ble_eq_true rfl) () trivial [0, 1] rfl (by first | (simp only [v_grow, v_g1, if_neg c_2, if_pos c_5, if_neg c_7]; rfl) | rfl)
    · skip
      refine g_aload_n B 0 1 dX5_grow_110 rfl rfl ?_
      refine g_iconst (v := 3) B dX5_grow_111 kc_3 ?_
      refine g_put (C := RX5) (T := TX5) (N := 11) (ty := .int) (v := .int 3) B 4 0 0 [(h0, cV (upd (upd f 1 x_6) 0 3)), (h1, cI ig)] in_X5 tyX5 tyX5_ok nmX5 rfl q290 rfl (Nat.le_of_ble_eq_true rfl) (fun _ h9 => h9) rfl rfl rfl rfl (Nat.le_of_ble_eq_true rfl) rfl dX5_grow_112 ?_
      refine g_goto (tgt := 158) B dX5_grow_115 (by decide) ?_
      subst ex_1
      subst ex_6
      exact g_vret B hr dX5_grow_158 (Nat.le_of_ble_eq_true rfl) (Nat.le_of_ble_eq_true rfl) () trivial [0, 1] rfl (by first | (simp only [v_grow, v_g1, if_neg c_2, if_pos c_5, if_pos c_7]; rfl) | rfl)
  by_cases c_8 : (f 0) = 3
  · skip
    refine g_tabIn (off := 105) (tgt := 118) B dX5_grow_13 (by rw [c_8]; decide) (by rw [c_8]; decide) (by rw [c_8]; decide) (by decide) ?_
    refine g_aload_n B 0 1 dX5_grow_118 rfl rfl ?_
    refine g_iload_n B 2 0 dX5_grow_119 rfl rfl ?_
    refine g_put (C := RX5) (T := TX5) (N := 11) (ty := .int) (v := .int x_1) B 4 0 1 [(h0, cV (upd f 1 x_1)), (h1, cI ig)] in_X5 tyX5 tyX5_ok nmX5 rfl q293 rfl (Nat.le_of_ble_eq_true rfl) (fun _ h9 => h9) rfl rfl rfl rfl (Nat.le_of_ble_eq_true rfl) rfl dX5_grow_120 ?_
    refine g_goto (tgt := 158) B dX5_grow_123 (by decide) ?_
    subst ex_1
    exact g_vret B hr dX5_grow_158 (Nat.le_of_ble_eq_true rfl) (Nat.le_of_ble_eq_true rfl) () trivial [0, 1] rfl (by first | (simp only [v_grow, v_g1, if_neg c_2, if_neg c_5, if_pos c_8]; rfl) | rfl)
  refine g_tabOut (tgt := 126) B dX5_grow_13 (by have nc_2 := ine c_2; have nc_5 := ine c_5; have nc_8 := ine c_8; simp only [it_1, it_2, it_3] at nc_2 nc_5 nc_8; omega) (by decide) ?_
  refine g_aload_n B 0 1 dX5_grow_126 rfl rfl ?_
  refine g_iconst (v := 0) B dX5_grow_127 kc_0 ?_
  refine g_aload_n B 0 1 dX5_grow_128 rfl rfl ?_
  refine g_get (C := RX5) (T := TX5) (N := 11) B 4 0 1 (.int (f 1)) in_X5 rfl q293 rfl (Nat.le_of_ble_eq_true rfl) (fun _ h9 => h9) rfl dX5_grow_129 ?_
  refine g_ldc (v := 1000000) B dX5_grow_132 q490 ?_
  refine g_aload_n B 1 2 dX5_grow_134 rfl rfl ?_
  refine g_getN (C := RX3) (T := TX3) (N := 12) B 2 1 7 (.int (ig 7)) in_X3 rfl q162 rfl (Nat.le_of_ble_eq_true rfl) (fun _ h9 => h9) rfl dX5_grow_135 ?_
  refine g_idiv B dX5_grow_138 z7 ?_
  refine g_isub B dX5_grow_139 ?_
  refine g_mmax B q492 q220 q33 q221 (Nat.le_of_ble_eq_true rfl) (Nat.le_of_ble_eq_true rfl) (Nat.le_of_ble_eq_true rfl) (Nat.le_of_ble_eq_true rfl) dX5_grow_140 ?_
  refine g_topi (fun x_9 ex_9 => ?_)
  refine g_put (C := RX5) (T := TX5) (N := 11) (ty := .int) (v := .int x_9) B 4 0 1 [(h0, cV (upd f 1 x_9)), (h1, cI ig)] in_X5 tyX5 tyX5_ok nmX5 rfl q293 rfl (Nat.le_of_ble_eq_true rfl) (fun _ h9 => h9) rfl rfl rfl rfl (Nat.le_of_ble_eq_true rfl) rfl dX5_grow_143 ?_
  refine g_aload_n B 0 1 dX5_grow_146 rfl rfl ?_
  refine g_get (C := RX5) (T := TX5) (N := 11) B 4 0 1 (.int x_9) in_X5 rfl q293 rfl (Nat.le_of_ble_eq_true rfl) (fun _ h9 => h9) rfl dX5_grow_147 ?_
  refine g_if_ne (tgt := 158) B dX5_grow_150 (by decide) (fun c_10 => ?_) (fun c_10 => ?_)
  · skip
    subst ex_1
    subst ex_9
    exact g_vret B hr dX5_grow_158 (Nat.le_of_ble_eq_true rfl) (Nat.le_of_ble_eq_true rfl) () trivial [0, 1] rfl (by first | (simp only [v_grow, v_g1, if_neg c_2, if_neg c_5, if_neg c_8, if_neg c_10]; rfl) | rfl)
  · skip
    refine g_aload_n B 0 1 dX5_grow_153 rfl rfl ?_
    refine g_iconst (v := 0) B dX5_grow_154 kc_0 ?_
    refine g_put (C := RX5) (T := TX5) (N := 11) (ty := .int) (v := .int 0) B 4 0 0 [(h0, cV (upd (upd f 1 x_9) 0 0)), (h1, cI ig)] in_X5 tyX5 tyX5_ok nmX5 rfl q290 rfl (Nat.le_of_ble_eq_true rfl) (fun _ h9 => h9) rfl rfl rfl rfl (Nat.le_of_ble_eq_true rfl) rfl dX5_grow_155 ?_
    subst ex_1
    subst ex_9
    exact g_vret B hr dX5_grow_158 (Nat.le_of_ble_eq_true rfl) (Nat.le_of_ble_eq_true rfl) () trivial [0, 1] rfl (by first | (simp only [v_grow, v_g1, if_neg c_2, if_neg c_5, if_neg c_8, if_pos c_10]; rfl) | rfl)

set_option maxHeartbeats 4000000 in
set_option maxRecDepth 100000 in
theorem m_X5_filtered (l : Launch) (hst : l.stackTraces = false) (g : gG) (h0 h1 : Nat) (f ig : Nat → Int32) (o : Int32) : gMi l yX5_filtered cX5_filtered 4 .int 2 45 0 0 g [(h0, cV f), (h1, cI ig)] [.ref h0, .int o, .ref h1] (fun (r : Int32) (_ : Unit) => r = v_out ig f) (fun _ : Unit => [(h0, cV (v_filt ig f o)), (h1, cI ig)]) := by
  intro sz
  refine g_ent (by decide) hst [(0, .ref h0), (1, .int o), (2, .ref h1)] (Nat.le_of_ble_eq_true rfl) rfl ?_
  intro p e s m below meth c B hr hnm hsz
  have B : gB p l s m ([.ref h0, .int o, .ref h1] : List Value).toArray meth c RX5 cX5_filtered 4 g (va_A [(h0, cV f), (h1, cI ig)] sz) := B
  refine g_aload_n B 0 0 dX5_filtered_0 rfl rfl ?_
  refine g_aload_n B 0 0 dX5_filtered_1 rfl rfl ?_
  refine g_get (C := RX5) (T := TX5) (N := 11) B 4 0 8 (.int (f 8)) in_X5 rfl q312 rfl (Nat.le_of_ble_eq_true rfl) (fun _ h9 => h9) rfl dX5_filtered_2 ?_
  refine g_aload_n B 2 2 dX5_filtered_5 rfl rfl ?_
  refine g_getN (C := RX3) (T := TX3) (N := 12) B 2 1 8 (.int (ig 8)) in_X3 rfl q165 rfl (Nat.le_of_ble_eq_true rfl) (fun _ h9 => h9) rfl dX5_filtered_6 ?_
  refine g_aload_n B 0 0 dX5_filtered_9 rfl rfl ?_
  refine g_get (C := RX5) (T := TX5) (N := 11) B 4 0 9 (.int (f 9)) in_X5 rfl q314 rfl (Nat.le_of_ble_eq_true rfl) (fun _ h9 => h9) rfl dX5_filtered_10 ?_
  refine g_imul B dX5_filtered_13 ?_
  refine g_sipush (v := 256) B dX5_filtered_14 ks_256 ?_
  refine g_idiv B dX5_filtered_17 (by decide) ?_
  refine g_iadd B dX5_filtered_18 ?_
  refine g_sipush (v := 4000) B dX5_filtered_19 ks_4000 ?_
  refine g_cuSN_i (As := [.int ((f 8) + (((ig 8) * (f 9)) / 256)), .int 4000]) B (m_X1_kept l hst g ((f 8) + (((ig 8) * (f 9)) / 256)) 4000) [] [.ref h0] (lw_meth q514) q512 q26 q513 nsX1_kept rfl rfl rfl rfl (Nat.le_of_ble_eq_true rfl) dX5_filtered_22 ⟨Nat.le_of_ble_eq_true rfl, Nat.le_of_ble_eq_true rfl⟩ ⟨Nat.le_of_ble_eq_true rfl, Nat.le_of_ble_eq_true rfl⟩ (fun r_1 ur_1 hr_1 => ?_)
  have hr_1 : r_1 = (pkp ((f 8) + (((ig 8) * (f 9)) / 256)) 4000) := hr_1
  refine g_put (C := RX5) (T := TX5) (N := 11) (ty := .int) (v := .int r_1) B 4 0 8 [(h0, cV (upd f 8 r_1)), (h1, cI ig)] in_X5 tyX5 tyX5_ok nmX5 rfl q312 rfl (Nat.le_of_ble_eq_true rfl) (fun _ h9 => h9) rfl rfl rfl rfl (Nat.le_of_ble_eq_true rfl) rfl dX5_filtered_25 ?_
  refine g_iload_n B 1 1 dX5_filtered_28 rfl rfl ?_
  refine g_aload_n B 0 0 dX5_filtered_29 rfl rfl ?_
  refine g_get (C := RX5) (T := TX5) (N := 11) B 4 0 8 (.int r_1) in_X5 rfl q312 rfl (Nat.le_of_ble_eq_true rfl) (fun _ h9 => h9) rfl dX5_filtered_30 ?_
  refine g_isub B dX5_filtered_33 ?_
  refine g_aload_n B 2 2 dX5_filtered_34 rfl rfl ?_
  refine g_getN (C := RX3) (T := TX3) (N := 12) B 2 1 9 (.int (ig 9)) in_X3 rfl q168 rfl (Nat.le_of_ble_eq_true rfl) (fun _ h9 => h9) rfl dX5_filtered_35 ?_
  refine g_aload_n B 0 0 dX5_filtered_38 rfl rfl ?_
  refine g_get (C := RX5) (T := TX5) (N := 11) B 4 0 9 (.int (f 9)) in_X5 rfl q314 rfl (Nat.le_of_ble_eq_true rfl) (fun _ h9 => h9) rfl dX5_filtered_39 ?_
  refine g_imul B dX5_filtered_42 ?_
  refine g_sipush (v := 256) B dX5_filtered_43 ks_256 ?_
  refine g_idiv B dX5_filtered_46 (by decide) ?_
  refine g_isub B dX5_filtered_47 ?_
  refine g_topi (fun x_2 ex_2 => ?_)
  refine g_istore_n B 3 [(3, .int x_2), (0, .ref h0), (1, .int o), (2, .ref h1)] dX5_filtered_48 rfl (Nat.le_of_ble_eq_true rfl) rfl ?_
  refine g_aload_n B 0 1 dX5_filtered_49 rfl rfl ?_
  refine g_aload_n B 0 1 dX5_filtered_50 rfl rfl ?_
  refine g_get (C := RX5) (T := TX5) (N := 11) B 4 0 9 (.int (f 9)) in_X5 rfl q314 rfl (Nat.le_of_ble_eq_true rfl) (fun _ h9 => h9) rfl dX5_filtered_51 ?_
  refine g_aload_n B 2 3 dX5_filtered_54 rfl rfl ?_
  refine g_getN (C := RX3) (T := TX3) (N := 12) B 2 1 8 (.int (ig 8)) in_X3 rfl q165 rfl (Nat.le_of_ble_eq_true rfl) (fun _ h9 => h9) rfl dX5_filtered_55 ?_
  refine g_iload_n B 3 0 dX5_filtered_58 rfl rfl ?_
  refine g_imul B dX5_filtered_59 ?_
  refine g_sipush (v := 256) B dX5_filtered_60 ks_256 ?_
  refine g_idiv B dX5_filtered_63 (by decide) ?_
  refine g_iadd B dX5_filtered_64 ?_
  refine g_sipush (v := 4000) B dX5_filtered_65 ks_4000 ?_
  refine g_cuSN_i (As := [.int ((f 9) + (((ig 8) * x_2) / 256)), .int 4000]) B (m_X1_kept l hst g ((f 9) + (((ig 8) * x_2) / 256)) 4000) [] [.ref h0] (lw_meth q514) q512 q26 q513 nsX1_kept rfl rfl rfl rfl (Nat.le_of_ble_eq_true rfl) dX5_filtered_68 ⟨Nat.le_of_ble_eq_true rfl, Nat.le_of_ble_eq_true rfl⟩ ⟨Nat.le_of_ble_eq_true rfl, Nat.le_of_ble_eq_true rfl⟩ (fun r_3 ur_3 hr_3 => ?_)
  have hr_3 : r_3 = (pkp ((f 9) + (((ig 8) * x_2) / 256)) 4000) := hr_3
  refine g_put (C := RX5) (T := TX5) (N := 11) (ty := .int) (v := .int r_3) B 4 0 9 [(h0, cV (upd (upd f 8 r_1) 9 r_3)), (h1, cI ig)] in_X5 tyX5 tyX5_ok nmX5 rfl q314 rfl (Nat.le_of_ble_eq_true rfl) (fun _ h9 => h9) rfl rfl rfl rfl (Nat.le_of_ble_eq_true rfl) rfl dX5_filtered_71 ?_
  refine g_aload_n B 0 1 dX5_filtered_74 rfl rfl ?_
  refine g_get (C := RX5) (T := TX5) (N := 11) B 4 0 8 (.int r_1) in_X5 rfl q312 rfl (Nat.le_of_ble_eq_true rfl) (fun _ h9 => h9) rfl dX5_filtered_75 ?_
  refine g_aload_n B 0 1 dX5_filtered_78 rfl rfl ?_
  refine g_get (C := RX5) (T := TX5) (N := 11) B 4 0 4 (.int (f 4)) in_X5 rfl q302 rfl (Nat.le_of_ble_eq_true rfl) (fun _ h9 => h9) rfl dX5_filtered_79 ?_
  refine g_imul B dX5_filtered_82 ?_
  refine g_bipush (v := 127) B dX5_filtered_83 kb_127 ?_
  refine g_idiv B dX5_filtered_85 (by decide) ?_
  refine g_aload_n B 0 1 dX5_filtered_86 rfl rfl ?_
  refine g_get (C := RX5) (T := TX5) (N := 11) B 4 0 1 (.int (f 1)) in_X5 rfl q293 rfl (Nat.le_of_ble_eq_true rfl) (fun _ h9 => h9) rfl dX5_filtered_87 ?_
  refine g_sipush (v := 1000) B dX5_filtered_90 ks_1000 ?_
  refine g_idiv B dX5_filtered_93 (by decide) ?_
  refine g_imul B dX5_filtered_94 ?_
  refine g_sipush (v := 1000) B dX5_filtered_95 ks_1000 ?_
  refine g_idiv B dX5_filtered_98 (by decide) ?_
  refine g_topi (fun x_4 ex_4 => ?_)
  subst hr_1
  subst ex_2
  subst hr_3
  subst ex_4
  exact g_iret B hr dX5_filtered_99 (Nat.le_of_ble_eq_true rfl) (Nat.le_of_ble_eq_true rfl) () rfl [0, 1] rfl rfl
