/-! contracts: lists, copies -/
set_option maxRecDepth 100000

theorem nsJ0_init : yJ0_init.cls ≠ "java/lang/invoke/MethodHandle" ∧ yJ0_init.cls ≠ "java/lang/invoke/VarHandle" ∧ (parseMethodDescriptor yJ0_init.desc).map (fun d => d.parameters.length) = some 0 := by decide +kernel
theorem nsJ1_init : yJ1_init.cls ≠ "java/lang/invoke/MethodHandle" ∧ yJ1_init.cls ≠ "java/lang/invoke/VarHandle" ∧ (parseMethodDescriptor yJ1_init.desc).map (fun d => d.parameters.length) = some 0 := by decide +kernel
theorem nsJ2_init : yJ2_init.cls ≠ "java/lang/invoke/MethodHandle" ∧ yJ2_init.cls ≠ "java/lang/invoke/VarHandle" ∧ (parseMethodDescriptor yJ2_init.desc).map (fun d => d.parameters.length) = some 0 := by decide +kernel
theorem nsX2_init : yX2_init.cls ≠ "java/lang/invoke/MethodHandle" ∧ yX2_init.cls ≠ "java/lang/invoke/VarHandle" ∧ (parseMethodDescriptor yX2_init.desc).map (fun d => d.parameters.length) = some 1 := by decide +kernel
theorem nsX5_init : yX5_init.cls ≠ "java/lang/invoke/MethodHandle" ∧ yX5_init.cls ≠ "java/lang/invoke/VarHandle" ∧ (parseMethodDescriptor yX5_init.desc).map (fun d => d.parameters.length) = some 0 := by decide +kernel
theorem nvJ2_add : yJ2_add.cls = RJ2 ∧ yJ2_add.cls ≠ "java/lang/invoke/MethodHandle" ∧ yJ2_add.cls ≠ "java/lang/invoke/VarHandle" ∧ (parseMethodDescriptor yJ2_add.desc).map (fun d => d.parameters.length) = some 1 := by decide +kernel
theorem nvJ2_add_2 : yJ2_add_2.cls = RJ2 ∧ yJ2_add_2.cls ≠ "java/lang/invoke/MethodHandle" ∧ yJ2_add_2.cls ≠ "java/lang/invoke/VarHandle" ∧ (parseMethodDescriptor yJ2_add_2.desc).map (fun d => d.parameters.length) = some 3 := by decide +kernel
theorem nvJ2_grow : yJ2_grow.cls = RJ2 ∧ yJ2_grow.cls ≠ "java/lang/invoke/MethodHandle" ∧ yJ2_grow.cls ≠ "java/lang/invoke/VarHandle" ∧ (parseMethodDescriptor yJ2_grow.desc).map (fun d => d.parameters.length) = some 0 := by decide +kernel
theorem nvJ2_grow_2 : yJ2_grow_2.cls = RJ2 ∧ yJ2_grow_2.cls ≠ "java/lang/invoke/MethodHandle" ∧ yJ2_grow_2.cls ≠ "java/lang/invoke/VarHandle" ∧ (parseMethodDescriptor yJ2_grow_2.desc).map (fun d => d.parameters.length) = some 1 := by decide +kernel
theorem nvX5_copy : yX5_copy.cls = RX5 ∧ yX5_copy.cls ≠ "java/lang/invoke/MethodHandle" ∧ yX5_copy.cls ≠ "java/lang/invoke/VarHandle" ∧ (parseMethodDescriptor yX5_copy.desc).map (fun d => d.parameters.length) = some 0 := by decide +kernel
set_option maxHeartbeats 4000000 in
set_option maxRecDepth 100000 in
theorem m_J0_init (l : Launch) (hst : l.stackTraces = false) (g : gG) (h0 : Nat) : gMv l yJ0_init cJ0_init 1 1 24 0 0 g [] [.ref h0] (fun (_ : Unit) => True) (fun _ : Unit => []) := by
  intro sz
  refine g_ent (by decide) hst [(0, .ref h0)] (Nat.le_of_ble_eq_true rfl) rfl ?_
  intro p e s m below meth c B hr hnm hsz
  have B : gB p l s m ([.ref h0] : List Value).toArray meth c RJ0 cJ0_init 1 g (va_A [] sz) := B
  refine g_aload_n B 0 0 dJ0_init_0 rfl rfl ?_
  refine g_objInit B q68 q55 q56 (Nat.le_of_ble_eq_true rfl) (Nat.le_of_ble_eq_true rfl) dJ0_init_1 ?_
  exact g_vret B hr dJ0_init_4 (Nat.le_of_ble_eq_true rfl) (Nat.le_of_ble_eq_true rfl) () trivial [] rfl rfl

set_option maxHeartbeats 4000000 in
set_option maxRecDepth 100000 in
theorem m_J1_init (l : Launch) (hst : l.stackTraces = false) (g : gG) (h0 : Nat) : gMv l yJ1_init cJ1_init 1 2 44 0 0 g [(h0, .inr (7, [.int 0, .null, .int 0]))] [.ref h0] (fun (_ : Unit) => True) (fun _ : Unit => [(h0, .inr (7, [.int 0, .null, .int 0]))]) := by
  intro sz
  refine g_ent (by decide) hst [(0, .ref h0)] (Nat.le_of_ble_eq_true rfl) rfl ?_
  intro p e s m below meth c B hr hnm hsz
  have B : gB p l s m ([.ref h0] : List Value).toArray meth c RJ1 cJ1_init 1 g (va_A [(h0, .inr (7, [.int 0, .null, .int 0]))] sz) := B
  refine g_aload_n B 0 0 dJ1_init_0 rfl rfl ?_
  refine g_cuI_v (As := []) B (m_J0_init l hst g h0) [] [] (lw_meth q67) q27 q65 q66 rfl nsJ0_init rfl rfl rfl rfl (Nat.le_of_ble_eq_true rfl) dJ1_init_1 ⟨Nat.le_of_ble_eq_true rfl, Nat.le_of_ble_eq_true rfl⟩ ⟨Nat.le_of_ble_eq_true rfl, Nat.le_of_ble_eq_true rfl⟩ (fun ur_1 hr_1 => ?_)
  refine g_aload_n B 0 0 dJ1_init_4 rfl rfl ?_
  refine g_iconst (v := 0) B dJ1_init_5 kc_0 ?_
  refine g_put (C := RJ2) (T := TJ2) (N := 3) (ty := .int) (v := .int 0) B 7 0 0 [(h0, .inr (7, [.int 0, .null, .int 0]))] in_J2 tyJ2 tyJ2_ok nmJ2 rfl q73 rfl (Nat.le_of_ble_eq_true rfl) (fun _ h9 => h9) rfl rfl rfl rfl (Nat.le_of_ble_eq_true rfl) rfl dJ1_init_6 ?_
  exact g_vret B hr dJ1_init_9 (Nat.le_of_ble_eq_true rfl) (Nat.le_of_ble_eq_true rfl) () trivial [0] rfl rfl

set_option maxHeartbeats 4000000 in
set_option maxRecDepth 100000 in
theorem m_J2_init (l : Launch) (hst : l.stackTraces = false) (g : gG) (h0 : Nat) : gMv l yJ2_init cJ2_init 1 3 64 0 0 g [(h0, .inr (7, [.int 0, .null, .int 0]))] [.ref h0] (fun (_ : Unit) => True) (fun _ : Unit => [(h0, .inr (7, [.int 0, .ref g.2.2.2.2, .int 0]))]) := by
  intro sz
  refine g_ent (by decide) hst [(0, .ref h0)] (Nat.le_of_ble_eq_true rfl) rfl ?_
  intro p e s m below meth c B hr hnm hsz
  have B : gB p l s m ([.ref h0] : List Value).toArray meth c RJ2 cJ2_init 1 g (va_A [(h0, .inr (7, [.int 0, .null, .int 0]))] sz) := B
  refine g_aload_n B 0 0 dJ2_init_0 rfl rfl ?_
  refine g_cuI_v (As := []) B (m_J1_init l hst g h0) [0] [] (lw_meth q64) q28 q62 q63 rfl nsJ1_init rfl rfl rfl rfl (Nat.le_of_ble_eq_true rfl) dJ2_init_1 ⟨Nat.le_of_ble_eq_true rfl, Nat.le_of_ble_eq_true rfl⟩ ⟨Nat.le_of_ble_eq_true rfl, Nat.le_of_ble_eq_true rfl⟩ (fun ur_1 hr_1 => ?_)
  refine g_aload_n B 0 0 dJ2_init_4 rfl rfl ?_
  refine g_getsA B q69 dJ2_init_5 ?_
  refine g_put (C := RJ2) (T := TJ2) (N := 3) (ty := (.array (.object "java/lang/Object"))) (v := .ref g.2.2.2.2) B 7 0 1 [(h0, .inr (7, [.int 0, .ref g.2.2.2.2, .int 0]))] in_J2 tyJ2 tyJ2_ok nmJ2 rfl q71 rfl (Nat.le_of_ble_eq_true rfl) (fun _ h9 => h9) rfl rfl rfl rfl (Nat.le_of_ble_eq_true rfl) rfl dJ2_init_8 ?_
  exact g_vret B hr dJ2_init_11 (Nat.le_of_ble_eq_true rfl) (Nat.le_of_ble_eq_true rfl) () trivial [0] rfl rfl

set_option maxHeartbeats 4000000 in
set_option maxRecDepth 100000 in
theorem m_J2_grow_2 (l : Launch) (hst : l.stackTraces = false) (g : gG) (h0 : Nat) (md : Int32) : gMq l yJ2_grow_2 cJ2_grow_2 4 (.array (.object "java/lang/Object")) 3 108 1 10 g [(h0, .inr (7, [.int md, .ref g.2.2.2.2, .int 0]))] [.ref h0, .int 1] (fun (r : Option Nat) (u : Nat) => r = some u) (fun u : Nat => [(h0, .inr (7, [.int md, .ref u, .int 0])), (u, .inl (g.2.2.1, 10, .inr (.inr (.inr (.inr (fun _ => none))))))]) := by
  intro sz
  refine g_ent (by decide) hst [(0, .ref h0), (1, .int 1)] (Nat.le_of_ble_eq_true rfl) rfl ?_
  intro p e s m below meth c B hr hnm hsz
  have B : gB p l s m ([.ref h0, .int 1] : List Value).toArray meth c RJ2 cJ2_grow_2 4 g (va_A [(h0, .inr (7, [.int md, .ref g.2.2.2.2, .int 0]))] sz) := B
  refine g_aload_n B 0 0 dJ2_grow_2_0 rfl rfl ?_
  refine g_get (C := RJ2) (T := TJ2) (N := 3) B 7 0 1 (.ref g.2.2.2.2) in_J2 rfl q71 rfl (Nat.le_of_ble_eq_true rfl) (fun _ h9 => h9) rfl dJ2_grow_2_1 ?_
  refine g_tlenA B dJ2_grow_2_4 ?_
  refine g_istore_n B 2 [(2, .int 0), (0, .ref h0), (1, .int 1)] dJ2_grow_2_5 rfl (Nat.le_of_ble_eq_true rfl) rfl ?_
  refine g_iload_n B 2 0 dJ2_grow_2_6 rfl rfl ?_
  refine g_if_gt_F (tgt := 20) B dJ2_grow_2_7 (by decide) (by decide) ?_
  refine g_aload_n B 0 1 dJ2_grow_2_10 rfl rfl ?_
  refine g_get (C := RJ2) (T := TJ2) (N := 3) B 7 0 1 (.ref g.2.2.2.2) in_J2 rfl q71 rfl (Nat.le_of_ble_eq_true rfl) (fun _ h9 => h9) rfl dJ2_grow_2_11 ?_
  refine g_getsA B q69 dJ2_grow_2_14 ?_
  refine g_acmp_eq_T B 45 dJ2_grow_2_17 (by decide) ?_
  refine g_aload_n B 0 1 dJ2_grow_2_45 rfl rfl ?_
  refine g_bipush (v := 10) B dJ2_grow_2_46 kb_10 ?_
  refine g_iload_n B 1 2 dJ2_grow_2_48 rfl rfl ?_
  refine g_mmax B q256 q220 q33 q221 (Nat.le_of_ble_eq_true rfl) (Nat.le_of_ble_eq_true rfl) (Nat.le_of_ble_eq_true rfl) (Nat.le_of_ble_eq_true rfl) dJ2_grow_2_49 ?_
  refine g_eqs (st' := [.int 10, .ref h0]) (congrArg (fun z => Value.int z :: _) (by decide)) ?_
  refine g_newq B 10 q257 (by decide) (by decide) (Nat.le_of_ble_eq_true rfl) (Nat.le_of_ble_eq_true rfl) (Nat.le_of_ble_eq_true rfl) dJ2_grow_2_52 (fun a_1 => ?_)
  refine g_dup_x1 B dJ2_grow_2_55 rfl rfl ?_
  refine g_put (C := RJ2) (T := TJ2) (N := 3) (ty := (.array (.object "java/lang/Object"))) (v := .ref a_1) B 7 0 1 [(h0, .inr (7, [.int md, .ref a_1, .int 0])), (a_1, .inl (g.2.2.1, 10, .inr (.inr (.inr (.inr (fun _ => none))))))] in_J2 tyJ2 tyJ2_ok nmJ2 rfl q71 rfl (Nat.le_of_ble_eq_true rfl) (fun _ h9 => h9) rfl rfl rfl rfl (Nat.le_of_ble_eq_true rfl) rfl dJ2_grow_2_56 ?_
  exact g_qret B hr (Or.inr ⟨_, rfl⟩) dJ2_grow_2_59 (Nat.le_of_ble_eq_true rfl) (Nat.le_of_ble_eq_true rfl) a_1 rfl [0, 1] rfl rfl

set_option maxHeartbeats 4000000 in
set_option maxRecDepth 100000 in
theorem m_J2_grow (l : Launch) (hst : l.stackTraces = false) (g : gG) (h0 : Nat) (md : Int32) : gMq l yJ2_grow cJ2_grow 1 (.array (.object "java/lang/Object")) 4 131 1 10 g [(h0, .inr (7, [.int md, .ref g.2.2.2.2, .int 0]))] [.ref h0] (fun (r : Option Nat) (u : Nat) => r = some u) (fun u : Nat => [(h0, .inr (7, [.int md, .ref u, .int 0])), (u, .inl (g.2.2.1, 10, .inr (.inr (.inr (.inr (fun _ => none))))))]) := by
  intro sz
  refine g_ent (by decide) hst [(0, .ref h0)] (Nat.le_of_ble_eq_true rfl) rfl ?_
  intro p e s m below meth c B hr hnm hsz
  have B : gB p l s m ([.ref h0] : List Value).toArray meth c RJ2 cJ2_grow 1 g (va_A [(h0, .inr (7, [.int md, .ref g.2.2.2.2, .int 0]))] sz) := B
  refine g_aload_n B 0 0 dJ2_grow_0 rfl rfl ?_
  refine g_aload_n B 0 0 dJ2_grow_1 rfl rfl ?_
  refine g_get (C := RJ2) (T := TJ2) (N := 3) B 7 0 2 (.int 0) in_J2 rfl q72 rfl (Nat.le_of_ble_eq_true rfl) (fun _ h9 => h9) rfl dJ2_grow_2 ?_
  refine g_iconst (v := 1) B dJ2_grow_5 kc_1 ?_
  refine g_iadd B dJ2_grow_6 ?_
  refine g_eqs (st' := [.int 1, .ref h0]) (congrArg (fun z => Value.int z :: _) (by decide)) ?_
  refine g_cV_q (C := RJ2) (T := TJ2) (N := 3) (As := [.int 1]) B (m_J2_grow_2 l hst g h0 md) 7 0 rfl rfl [0] [] (lw_V q212 q214 qs2 q29 q215) nvJ2_grow_2 rfl rfl (fun _ => rfl) rfl rfl (Nat.le_of_ble_eq_true rfl) dJ2_grow_7 ⟨Nat.le_of_ble_eq_true rfl, Nat.le_of_ble_eq_true rfl⟩ ⟨Nat.le_of_ble_eq_true rfl, Nat.le_of_ble_eq_true rfl⟩ (fun r_1 ur_1 hr_1 => ?_)
  refine g_eqw (ws' := [(h0, .inr (7, [.int md, .ref ur_1, .int 0])), (ur_1, .inl (g.2.2.1, 10, .inr (.inr (.inr (.inr (fun _ => none))))))]) rfl ?_
  obtain rfl : some ur_1 = r_1 := (hr_1).symm
  refine g_eqs (st' := [.ref ur_1]) rfl ?_
  exact g_qret B hr (Or.inr ⟨_, rfl⟩) dJ2_grow_10 (Nat.le_of_ble_eq_true rfl) (Nat.le_of_ble_eq_true rfl) ur_1 rfl [0, 1] rfl rfl

set_option maxHeartbeats 4000000 in
set_option maxRecDepth 100000 in
theorem m_J2_add_2_0 (l : Launch) (hst : l.stackTraces = false) (g : gG) (h0 : Nat) (md : Int32) (v ci : Nat) (vs : List Value) (C : String) (T : u_T) (N : Nat) (hcl : vwCl[ci]? = some (C, T, N)) (hcs : Cond.castable C "java/lang/Object" ∈ lw_tbl) : gMv l yJ2_add_2 cJ2_add_2 4 5 151 1 10 g [(h0, .inr (7, [.int md, .ref g.2.2.2.2, .int 0])), (v, .inr (ci, vs))] [.ref h0, .ref v, .ref g.2.2.2.2, .int 0] (fun (u : Nat) => True) (fun u : Nat => [(h0, .inr (7, [.int md, .ref u, .int 1])), (v, .inr (ci, vs)), (u, .inl (g.2.2.1, 10, .inr (.inr (.inr (.inr (va_up (fun _ => none) 0 (some v)))))))]) := by
  intro sz
  refine g_ent (by decide) hst [(0, .ref h0), (1, .ref v), (2, .ref g.2.2.2.2), (3, .int 0)] (Nat.le_of_ble_eq_true rfl) rfl ?_
  intro p e s m below meth c B hr hnm hsz
  have B : gB p l s m ([.ref h0, .ref v, .ref g.2.2.2.2, .int 0] : List Value).toArray meth c RJ2 cJ2_add_2 4 g (va_A [(h0, .inr (7, [.int md, .ref g.2.2.2.2, .int 0])), (v, .inr (ci, vs))] sz) := B
  refine g_iload_n B 3 3 dJ2_add_2_0 rfl rfl ?_
  refine g_aload_n B 2 2 dJ2_add_2_1 rfl rfl ?_
  refine g_tlenA B dJ2_add_2_2 ?_
  refine g_icmp_ne_F (tgt := 11) B dJ2_add_2_3 (by decide) (by decide) ?_
  refine g_aload_n B 0 0 dJ2_add_2_6 rfl rfl ?_
  refine g_cV_q (C := RJ2) (T := TJ2) (N := 3) (As := []) B (m_J2_grow l hst g h0 md) 7 0 rfl rfl [0] [] (lw_V q208 q210 qs1 q29 q211) nvJ2_grow rfl rfl (fun _ => rfl) rfl rfl (Nat.le_of_ble_eq_true rfl) dJ2_add_2_7 ⟨Nat.le_of_ble_eq_true rfl, Nat.le_of_ble_eq_true rfl⟩ ⟨Nat.le_of_ble_eq_true rfl, Nat.le_of_ble_eq_true rfl⟩ (fun r_1 ur_1 hr_1 => ?_)
  refine g_eqw (ws' := [(h0, .inr (7, [.int md, .ref ur_1, .int 0])), (v, .inr (ci, vs)), (ur_1, .inl (g.2.2.1, 10, .inr (.inr (.inr (.inr (fun _ => none))))))]) rfl ?_
  obtain rfl : some ur_1 = r_1 := (hr_1).symm
  refine g_eqs (st' := [.ref ur_1]) rfl ?_
  refine g_astore_n B 2 [(2, .ref ur_1), (0, .ref h0), (1, .ref v), (3, .int 0)] dJ2_add_2_10 rfl (Nat.le_of_ble_eq_true rfl) rfl ?_
  refine g_aload_n B 2 0 dJ2_add_2_11 rfl rfl ?_
  refine g_iload_n B 3 3 dJ2_add_2_12 rfl rfl ?_
  refine g_aload_n B 1 2 dJ2_add_2_13 rfl rfl ?_
  refine g_astO (C := C) (T := T) (N := N) B 2 1 ci 0 [(h0, .inr (7, [.int md, .ref ur_1, .int 0])), (v, .inr (ci, vs)), (ur_1, .inl (g.2.2.1, 10, .inr (.inr (.inr (.inr (va_up (fun _ => none) 0 (some v)))))))] rfl rfl hcl hcs (by decide) (vpc rfl) rfl dJ2_add_2_14 ?_
  refine g_aload_n B 0 1 dJ2_add_2_15 rfl rfl ?_
  refine g_iload_n B 3 3 dJ2_add_2_16 rfl rfl ?_
  refine g_iconst (v := 1) B dJ2_add_2_17 kc_1 ?_
  refine g_iadd B dJ2_add_2_18 ?_
  refine g_eqs (st' := [.int 1, .ref h0]) (congrArg (fun z => Value.int z :: _) (by decide)) ?_
  refine g_put (C := RJ2) (T := TJ2) (N := 3) (ty := .int) (v := .int 1) B 7 0 2 [(h0, .inr (7, [.int md, .ref ur_1, .int 1])), (v, .inr (ci, vs)), (ur_1, .inl (g.2.2.1, 10, .inr (.inr (.inr (.inr (va_up (fun _ => none) 0 (some v)))))))] in_J2 tyJ2 tyJ2_ok nmJ2 rfl q72 rfl (Nat.le_of_ble_eq_true rfl) (fun _ h9 => h9) rfl rfl rfl rfl (Nat.le_of_ble_eq_true rfl) rfl dJ2_add_2_19 ?_
  exact g_vret B hr dJ2_add_2_22 (Nat.le_of_ble_eq_true rfl) (Nat.le_of_ble_eq_true rfl) ur_1 trivial [0, 1, 2] rfl rfl

set_option maxHeartbeats 4000000 in
set_option maxRecDepth 100000 in
theorem m_J2_add_0 (l : Launch) (hst : l.stackTraces = false) (g : gG) (h0 : Nat) (v ci : Nat) (vs : List Value) (C : String) (T : u_T) (N : Nat) (hcl : vwCl[ci]? = some (C, T, N)) (hcs : Cond.castable C "java/lang/Object" ∈ lw_tbl) : gMi l yJ2_add cJ2_add 2 .boolean 6 174 1 10 g [(h0, .inr (7, [.int 0, .ref g.2.2.2.2, .int 0])), (v, .inr (ci, vs))] [.ref h0, .ref v] (fun (r : Int32) (u : Nat) => r = 1) (fun u : Nat => [(h0, .inr (7, [.int 1, .ref u, .int 1])), (v, .inr (ci, vs)), (u, .inl (g.2.2.1, 10, .inr (.inr (.inr (.inr (va_up (fun _ => none) 0 (some v)))))))]) := by
  intro sz
  refine g_ent (by decide) hst [(0, .ref h0), (1, .ref v)] (Nat.le_of_ble_eq_true rfl) rfl ?_
  intro p e s m below meth c B hr hnm hsz
  have B : gB p l s m ([.ref h0, .ref v] : List Value).toArray meth c RJ2 cJ2_add 2 g (va_A [(h0, .inr (7, [.int 0, .ref g.2.2.2.2, .int 0])), (v, .inr (ci, vs))] sz) := B
  refine g_aload_n B 0 0 dJ2_add_0 rfl rfl ?_
  refine g_dup B dJ2_add_1 rfl ?_
  refine g_get (C := RJ2) (T := TJ2) (N := 3) B 7 0 0 (.int 0) in_J2 rfl q74 rfl (Nat.le_of_ble_eq_true rfl) (u_same (B.ts _ q75)) rfl dJ2_add_2 ?_
  refine g_iconst (v := 1) B dJ2_add_5 kc_1 ?_
  refine g_iadd B dJ2_add_6 ?_
  refine g_eqs (st' := [.int 1, .ref h0]) (congrArg (fun z => Value.int z :: _) (by decide)) ?_
  refine g_put (C := RJ2) (T := TJ2) (N := 3) (ty := .int) (v := .int 1) B 7 0 0 [(h0, .inr (7, [.int 1, .ref g.2.2.2.2, .int 0])), (v, .inr (ci, vs))] in_J2 tyJ2 tyJ2_ok nmJ2 rfl q74 rfl (Nat.le_of_ble_eq_true rfl) (u_same (B.ts _ q75)) rfl rfl rfl rfl (Nat.le_of_ble_eq_true rfl) rfl dJ2_add_7 ?_
  refine g_aload_n B 0 0 dJ2_add_10 rfl rfl ?_
  refine g_aload_n B 1 1 dJ2_add_11 rfl rfl ?_
  refine g_aload_n B 0 0 dJ2_add_12 rfl rfl ?_
  refine g_get (C := RJ2) (T := TJ2) (N := 3) B 7 0 1 (.ref g.2.2.2.2) in_J2 rfl q71 rfl (Nat.le_of_ble_eq_true rfl) (fun _ h9 => h9) rfl dJ2_add_13 ?_
  refine g_aload_n B 0 0 dJ2_add_16 rfl rfl ?_
  refine g_get (C := RJ2) (T := TJ2) (N := 3) B 7 0 2 (.int 0) in_J2 rfl q72 rfl (Nat.le_of_ble_eq_true rfl) (fun _ h9 => h9) rfl dJ2_add_17 ?_
  refine g_cV_v (C := RJ2) (T := TJ2) (N := 3) (As := [.ref v, .ref g.2.2.2.2, .int 0]) B (m_J2_add_2_0 l hst g h0 1 v ci vs C T N hcl hcs) 7 0 rfl rfl [0, 1] [] (lw_V q204 q206 qs0 q29 q207) nvJ2_add_2 rfl rfl (fun _ => rfl) rfl rfl (Nat.le_of_ble_eq_true rfl) dJ2_add_20 ⟨Nat.le_of_ble_eq_true rfl, Nat.le_of_ble_eq_true rfl⟩ ⟨Nat.le_of_ble_eq_true rfl, Nat.le_of_ble_eq_true rfl⟩ (fun ur_1 hr_1 => ?_)
  refine g_eqw (ws' := [(h0, .inr (7, [.int 1, .ref ur_1, .int 1])), (v, .inr (ci, vs)), (ur_1, .inl (g.2.2.1, 10, .inr (.inr (.inr (.inr (va_up (fun _ => none) 0 (some v)))))))]) rfl ?_
  refine g_iconst (v := 1) B dJ2_add_23 kc_1 ?_
  exact g_zret B hr rfl dJ2_add_24 (Nat.le_of_ble_eq_true rfl) (Nat.le_of_ble_eq_true rfl) ur_1 rfl [0, 1, 2] rfl rfl

set_option maxHeartbeats 4000000 in
set_option maxRecDepth 100000 in
theorem m_J2_add_2_1 (l : Launch) (hst : l.stackTraces = false) (g : gG) (h0 h1 : Nat) (md : Int32) (k k2 : Int32) (j : Nat) (f : Nat → Option Nat) (hk : k + 1 = k2) (hj : k.toNatClampNeg = j) (hin : vp_in k 10) (hne : ¬ k = 10) (v ci : Nat) (vs : List Value) (C : String) (T : u_T) (N : Nat) (hcl : vwCl[ci]? = some (C, T, N)) (hcs : Cond.castable C "java/lang/Object" ∈ lw_tbl) : gMv l yJ2_add_2 cJ2_add_2 4 5 151 0 0 g [(h0, .inr (7, [.int md, .ref h1, .int k])), (v, .inr (ci, vs)), (h1, .inl (g.2.2.1, 10, .inr (.inr (.inr (.inr f)))))] [.ref h0, .ref v, .ref h1, .int k] (fun (_ : Unit) => True) (fun _ : Unit => [(h0, .inr (7, [.int md, .ref h1, .int k2])), (v, .inr (ci, vs)), (h1, .inl (g.2.2.1, 10, .inr (.inr (.inr (.inr (va_up f j (some v)))))))]) := by
  intro sz
  refine g_ent (by decide) hst [(0, .ref h0), (1, .ref v), (2, .ref h1), (3, .int k)] (Nat.le_of_ble_eq_true rfl) rfl ?_
  intro p e s m below meth c B hr hnm hsz
  have B : gB p l s m ([.ref h0, .ref v, .ref h1, .int k] : List Value).toArray meth c RJ2 cJ2_add_2 4 g (va_A [(h0, .inr (7, [.int md, .ref h1, .int k])), (v, .inr (ci, vs)), (h1, .inl (g.2.2.1, 10, .inr (.inr (.inr (.inr f)))))] sz) := B
  refine g_iload_n B 3 3 dJ2_add_2_0 rfl rfl ?_
  refine g_aload_n B 2 2 dJ2_add_2_1 rfl rfl ?_
  refine g_alenq B 2 10 rfl (by decide) dJ2_add_2_2 ?_
  refine g_icmp_ne_T (tgt := 11) B dJ2_add_2_3 (by decide) hne ?_
  refine g_aload_n B 2 2 dJ2_add_2_11 rfl rfl ?_
  refine g_iload_n B 3 3 dJ2_add_2_12 rfl rfl ?_
  refine g_aload_n B 1 1 dJ2_add_2_13 rfl rfl ?_
  refine g_astO (C := C) (T := T) (N := N) B 2 1 ci j [(h0, .inr (7, [.int md, .ref h1, .int k])), (v, .inr (ci, vs)), (h1, .inl (g.2.2.1, 10, .inr (.inr (.inr (.inr (va_up f j (some v)))))))] rfl rfl hcl hcs hj hin rfl dJ2_add_2_14 ?_
  refine g_aload_n B 0 0 dJ2_add_2_15 rfl rfl ?_
  refine g_iload_n B 3 3 dJ2_add_2_16 rfl rfl ?_
  refine g_iconst (v := 1) B dJ2_add_2_17 kc_1 ?_
  refine g_iadd B dJ2_add_2_18 ?_
  refine g_put (C := RJ2) (T := TJ2) (N := 3) (ty := .int) (v := .int (k + 1)) B 7 0 2 [(h0, .inr (7, [.int md, .ref h1, .int (k + 1)])), (v, .inr (ci, vs)), (h1, .inl (g.2.2.1, 10, .inr (.inr (.inr (.inr (va_up f j (some v)))))))] in_J2 tyJ2 tyJ2_ok nmJ2 rfl q72 rfl (Nat.le_of_ble_eq_true rfl) (fun _ h9 => h9) rfl rfl rfl rfl (Nat.le_of_ble_eq_true rfl) rfl dJ2_add_2_19 ?_
  exact g_vret B hr dJ2_add_2_22 (Nat.le_of_ble_eq_true rfl) (Nat.le_of_ble_eq_true rfl) () trivial [0, 1, 2] rfl (by rw [hk]; rfl)

set_option maxHeartbeats 4000000 in
set_option maxRecDepth 100000 in
theorem m_J2_add_1 (l : Launch) (hst : l.stackTraces = false) (g : gG) (h0 h1 : Nat) (k k2 : Int32) (j : Nat) (f : Nat → Option Nat) (hk : k + 1 = k2) (hj : k.toNatClampNeg = j) (hin : vp_in k 10) (hne : ¬ k = 10) (v ci : Nat) (vs : List Value) (C : String) (T : u_T) (N : Nat) (hcl : vwCl[ci]? = some (C, T, N)) (hcs : Cond.castable C "java/lang/Object" ∈ lw_tbl) : gMi l yJ2_add cJ2_add 2 .boolean 6 174 0 0 g [(h0, .inr (7, [.int k, .ref h1, .int k])), (v, .inr (ci, vs)), (h1, .inl (g.2.2.1, 10, .inr (.inr (.inr (.inr f)))))] [.ref h0, .ref v] (fun (r : Int32) (_ : Unit) => r = 1) (fun _ : Unit => [(h0, .inr (7, [.int k2, .ref h1, .int k2])), (v, .inr (ci, vs)), (h1, .inl (g.2.2.1, 10, .inr (.inr (.inr (.inr (va_up f j (some v)))))))]) := by
  intro sz
  refine g_ent (by decide) hst [(0, .ref h0), (1, .ref v)] (Nat.le_of_ble_eq_true rfl) rfl ?_
  intro p e s m below meth c B hr hnm hsz
  have B : gB p l s m ([.ref h0, .ref v] : List Value).toArray meth c RJ2 cJ2_add 2 g (va_A [(h0, .inr (7, [.int k, .ref h1, .int k])), (v, .inr (ci, vs)), (h1, .inl (g.2.2.1, 10, .inr (.inr (.inr (.inr f)))))] sz) := B
  refine g_aload_n B 0 0 dJ2_add_0 rfl rfl ?_
  refine g_dup B dJ2_add_1 rfl ?_
  refine g_get (C := RJ2) (T := TJ2) (N := 3) B 7 0 0 (.int k) in_J2 rfl q74 rfl (Nat.le_of_ble_eq_true rfl) (u_same (B.ts _ q75)) rfl dJ2_add_2 ?_
  refine g_iconst (v := 1) B dJ2_add_5 kc_1 ?_
  refine g_iadd B dJ2_add_6 ?_
  refine g_put (C := RJ2) (T := TJ2) (N := 3) (ty := .int) (v := .int (k + 1)) B 7 0 0 [(h0, .inr (7, [.int (k + 1), .ref h1, .int k])), (v, .inr (ci, vs)), (h1, .inl (g.2.2.1, 10, .inr (.inr (.inr (.inr f)))))] in_J2 tyJ2 tyJ2_ok nmJ2 rfl q74 rfl (Nat.le_of_ble_eq_true rfl) (u_same (B.ts _ q75)) rfl rfl rfl rfl (Nat.le_of_ble_eq_true rfl) rfl dJ2_add_7 ?_
  refine g_aload_n B 0 0 dJ2_add_10 rfl rfl ?_
  refine g_aload_n B 1 1 dJ2_add_11 rfl rfl ?_
  refine g_aload_n B 0 0 dJ2_add_12 rfl rfl ?_
  refine g_get (C := RJ2) (T := TJ2) (N := 3) B 7 0 1 (.ref h1) in_J2 rfl q71 rfl (Nat.le_of_ble_eq_true rfl) (fun _ h9 => h9) rfl dJ2_add_13 ?_
  refine g_aload_n B 0 0 dJ2_add_16 rfl rfl ?_
  refine g_get (C := RJ2) (T := TJ2) (N := 3) B 7 0 2 (.int k) in_J2 rfl q72 rfl (Nat.le_of_ble_eq_true rfl) (fun _ h9 => h9) rfl dJ2_add_17 ?_
  refine g_cV_v (C := RJ2) (T := TJ2) (N := 3) (As := [.ref v, .ref h1, .int k]) B (m_J2_add_2_1 l hst g h0 h1 (k + 1) k k2 j f hk hj hin hne v ci vs C T N hcl hcs) 7 0 rfl rfl [0, 1, 2] [] (lw_V q204 q206 qs0 q29 q207) nvJ2_add_2 rfl rfl (fun _ => rfl) rfl rfl (Nat.le_of_ble_eq_true rfl) dJ2_add_20 ⟨Nat.le_of_ble_eq_true rfl, Nat.le_of_ble_eq_true rfl⟩ ⟨Nat.le_of_ble_eq_true rfl, Nat.le_of_ble_eq_true rfl⟩ (fun ur_1 hr_1 => ?_)
  refine g_eqw (ws' := [(h0, .inr (7, [.int (k + 1), .ref h1, .int k2])), (v, .inr (ci, vs)), (h1, .inl (g.2.2.1, 10, .inr (.inr (.inr (.inr (va_up f j (some v)))))))]) rfl ?_
  refine g_iconst (v := 1) B dJ2_add_23 kc_1 ?_
  exact g_zret B hr rfl dJ2_add_24 (Nat.le_of_ble_eq_true rfl) (Nat.le_of_ble_eq_true rfl) () rfl [0, 1, 2] rfl (by rw [hk]; rfl)

set_option maxHeartbeats 4000000 in
set_option maxRecDepth 100000 in
theorem m_X5_init (l : Launch) (hst : l.stackTraces = false) (g : gG) (h0 : Nat) : gMv l yX5_init cX5_init 1 1 24 0 0 g [(h0, .inr (4, [.int 0, .int 0, .int 0, .int 0, .int 0, .int 0, .int 0, .int 0, .int 0, .int 0, .int 0]))] [.ref h0] (fun (_ : Unit) => True) (fun _ : Unit => [(h0, .inr (4, [.int 0, .int 0, .int 0, .int 0, .int 0, .int 0, .int 0, .int 0, .int 0, .int 0, .int (-1)]))]) := by
  intro sz
  refine g_ent (by decide) hst [(0, .ref h0)] (Nat.le_of_ble_eq_true rfl) rfl ?_
  intro p e s m below meth c B hr hnm hsz
  have B : gB p l s m ([.ref h0] : List Value).toArray meth c RX5 cX5_init 1 g (va_A [(h0, .inr (4, [.int 0, .int 0, .int 0, .int 0, .int 0, .int 0, .int 0, .int 0, .int 0, .int 0, .int 0]))] sz) := B
  refine g_aload_n B 0 0 dX5_init_0 rfl rfl ?_
  refine g_objInit B q289 q55 q56 (Nat.le_of_ble_eq_true rfl) (Nat.le_of_ble_eq_true rfl) dX5_init_1 ?_
  refine g_aload_n B 0 0 dX5_init_4 rfl rfl ?_
  refine g_iconst (v := (-1)) B dX5_init_5 kc_m1 ?_
  refine g_put (C := RX5) (T := TX5) (N := 11) (ty := .int) (v := .int (-1)) B 4 0 10 [(h0, .inr (4, [.int 0, .int 0, .int 0, .int 0, .int 0, .int 0, .int 0, .int 0, .int 0, .int 0, .int (-1)]))] in_X5 tyX5 tyX5_ok nmX5 rfl q316 rfl (Nat.le_of_ble_eq_true rfl) (fun _ h9 => h9) rfl rfl rfl rfl (Nat.le_of_ble_eq_true rfl) rfl dX5_init_6 ?_
  exact g_vret B hr dX5_init_9 (Nat.le_of_ble_eq_true rfl) (Nat.le_of_ble_eq_true rfl) () trivial [0] rfl rfl

set_option maxHeartbeats 4000000 in
set_option maxRecDepth 100000 in
theorem m_X5_copy (l : Launch) (hst : l.stackTraces = false) (g : gG) (h0 : Nat) (f : Nat → Int32) : gMq l yX5_copy cX5_copy 2 (.object "Melodeon$Voice") 2 44 1 11 g [(h0, cV f)] [.ref h0] (fun (r : Option Nat) (u : Nat) => r = some u) (fun u : Nat => [(h0, cV f), (u, cV f)]) := by
  intro sz
  refine g_ent (by decide) hst [(0, .ref h0)] (Nat.le_of_ble_eq_true rfl) rfl ?_
  intro p e s m below meth c B hr hnm hsz
  have B : gB p l s m ([.ref h0] : List Value).toArray meth c RX5 cX5_copy 2 g (va_A [(h0, cV f)] sz) := B
  refine g_new (C := RX5) (T := TX5) (N := 11) B 4 [.int 0, .int 0, .int 0, .int 0, .int 0, .int 0, .int 0, .int 0, .int 0, .int 0, .int 0] in_X5 tyX5 tyX5_ok q887 q285 q37 rfl dfX5 (Nat.le_of_ble_eq_true rfl) (Nat.le_of_ble_eq_true rfl) dX5_copy_0 (fun a_1 => ?_)
  refine g_dup B dX5_copy_3 rfl ?_
  refine g_cI_v (As := []) B (m_X5_init l hst g a_1) [1] [.ref a_1] (lw_meth q288) q37 q888 q287 rfl nsX5_init rfl rfl (fun _ => rfl) rfl rfl (Nat.le_of_ble_eq_true rfl) dX5_copy_4 ⟨Nat.le_of_ble_eq_true rfl, Nat.le_of_ble_eq_true rfl⟩ ⟨Nat.le_of_ble_eq_true rfl, Nat.le_of_ble_eq_true rfl⟩ (fun ur_2 hr_2 => ?_)
  refine g_eqw (ws' := [(h0, cV f), (a_1, .inr (4, [.int 0, .int 0, .int 0, .int 0, .int 0, .int 0, .int 0, .int 0, .int 0, .int 0, .int (-1)]))]) rfl ?_
  refine g_astore_n B 1 [(1, .ref a_1), (0, .ref h0)] dX5_copy_7 rfl (Nat.le_of_ble_eq_true rfl) rfl ?_
  refine g_aload_n B 1 0 dX5_copy_8 rfl rfl ?_
  refine g_aload_n B 0 1 dX5_copy_9 rfl rfl ?_
  refine g_get (C := RX5) (T := TX5) (N := 11) B 4 0 0 (.int (f 0)) in_X5 rfl q290 rfl (Nat.le_of_ble_eq_true rfl) (fun _ h9 => h9) rfl dX5_copy_10 ?_
  refine g_put (C := RX5) (T := TX5) (N := 11) (ty := .int) (v := .int (f 0)) B 4 1 0 [(h0, cV f), (a_1, .inr (4, [.int (f 0), .int 0, .int 0, .int 0, .int 0, .int 0, .int 0, .int 0, .int 0, .int 0, .int (-1)]))] in_X5 tyX5 tyX5_ok nmX5 rfl q290 rfl (Nat.le_of_ble_eq_true rfl) (fun _ h9 => h9) rfl rfl rfl rfl (Nat.le_of_ble_eq_true rfl) rfl dX5_copy_13 ?_
  refine g_aload_n B 1 0 dX5_copy_16 rfl rfl ?_
  refine g_aload_n B 0 1 dX5_copy_17 rfl rfl ?_
  refine g_get (C := RX5) (T := TX5) (N := 11) B 4 0 1 (.int (f 1)) in_X5 rfl q293 rfl (Nat.le_of_ble_eq_true rfl) (fun _ h9 => h9) rfl dX5_copy_18 ?_
  refine g_put (C := RX5) (T := TX5) (N := 11) (ty := .int) (v := .int (f 1)) B 4 1 1 [(h0, cV f), (a_1, .inr (4, [.int (f 0), .int (f 1), .int 0, .int 0, .int 0, .int 0, .int 0, .int 0, .int 0, .int 0, .int (-1)]))] in_X5 tyX5 tyX5_ok nmX5 rfl q293 rfl (Nat.le_of_ble_eq_true rfl) (fun _ h9 => h9) rfl rfl rfl rfl (Nat.le_of_ble_eq_true rfl) rfl dX5_copy_21 ?_
  refine g_aload_n B 1 0 dX5_copy_24 rfl rfl ?_
  refine g_aload_n B 0 1 dX5_copy_25 rfl rfl ?_
  refine g_get (C := RX5) (T := TX5) (N := 11) B 4 0 2 (.int (f 2)) in_X5 rfl q296 rfl (Nat.le_of_ble_eq_true rfl) (fun _ h9 => h9) rfl dX5_copy_26 ?_
  refine g_put (C := RX5) (T := TX5) (N := 11) (ty := .int) (v := .int (f 2)) B 4 1 2 [(h0, cV f), (a_1, .inr (4, [.int (f 0), .int (f 1), .int (f 2), .int 0, .int 0, .int 0, .int 0, .int 0, .int 0, .int 0, .int (-1)]))] in_X5 tyX5 tyX5_ok nmX5 rfl q296 rfl (Nat.le_of_ble_eq_true rfl) (fun _ h9 => h9) rfl rfl rfl rfl (Nat.le_of_ble_eq_true rfl) rfl dX5_copy_29 ?_
  refine g_aload_n B 1 0 dX5_copy_32 rfl rfl ?_
  refine g_aload_n B 0 1 dX5_copy_33 rfl rfl ?_
  refine g_get (C := RX5) (T := TX5) (N := 11) B 4 0 3 (.int (f 3)) in_X5 rfl q299 rfl (Nat.le_of_ble_eq_true rfl) (fun _ h9 => h9) rfl dX5_copy_34 ?_
  refine g_put (C := RX5) (T := TX5) (N := 11) (ty := .int) (v := .int (f 3)) B 4 1 3 [(h0, cV f), (a_1, .inr (4, [.int (f 0), .int (f 1), .int (f 2), .int (f 3), .int 0, .int 0, .int 0, .int 0, .int 0, .int 0, .int (-1)]))] in_X5 tyX5 tyX5_ok nmX5 rfl q299 rfl (Nat.le_of_ble_eq_true rfl) (fun _ h9 => h9) rfl rfl rfl rfl (Nat.le_of_ble_eq_true rfl) rfl dX5_copy_37 ?_
  refine g_aload_n B 1 0 dX5_copy_40 rfl rfl ?_
  refine g_aload_n B 0 1 dX5_copy_41 rfl rfl ?_
  refine g_get (C := RX5) (T := TX5) (N := 11) B 4 0 4 (.int (f 4)) in_X5 rfl q302 rfl (Nat.le_of_ble_eq_true rfl) (fun _ h9 => h9) rfl dX5_copy_42 ?_
  refine g_put (C := RX5) (T := TX5) (N := 11) (ty := .int) (v := .int (f 4)) B 4 1 4 [(h0, cV f), (a_1, .inr (4, [.int (f 0), .int (f 1), .int (f 2), .int (f 3), .int (f 4), .int 0, .int 0, .int 0, .int 0, .int 0, .int (-1)]))] in_X5 tyX5 tyX5_ok nmX5 rfl q302 rfl (Nat.le_of_ble_eq_true rfl) (fun _ h9 => h9) rfl rfl rfl rfl (Nat.le_of_ble_eq_true rfl) rfl dX5_copy_45 ?_
  refine g_aload_n B 1 0 dX5_copy_48 rfl rfl ?_
  refine g_aload_n B 0 1 dX5_copy_49 rfl rfl ?_
  refine g_get (C := RX5) (T := TX5) (N := 11) B 4 0 5 (.int (f 5)) in_X5 rfl q304 rfl (Nat.le_of_ble_eq_true rfl) (fun _ h9 => h9) rfl dX5_copy_50 ?_
  refine g_put (C := RX5) (T := TX5) (N := 11) (ty := .int) (v := .int (f 5)) B 4 1 5 [(h0, cV f), (a_1, .inr (4, [.int (f 0), .int (f 1), .int (f 2), .int (f 3), .int (f 4), .int (f 5), .int 0, .int 0, .int 0, .int 0, .int (-1)]))] in_X5 tyX5 tyX5_ok nmX5 rfl q304 rfl (Nat.le_of_ble_eq_true rfl) (fun _ h9 => h9) rfl rfl rfl rfl (Nat.le_of_ble_eq_true rfl) rfl dX5_copy_53 ?_
  refine g_aload_n B 1 0 dX5_copy_56 rfl rfl ?_
  refine g_aload_n B 0 1 dX5_copy_57 rfl rfl ?_
  refine g_get (C := RX5) (T := TX5) (N := 11) B 4 0 6 (.int (f 6)) in_X5 rfl q306 rfl (Nat.le_of_ble_eq_true rfl) (fun _ h9 => h9) rfl dX5_copy_58 ?_
  refine g_put (C := RX5) (T := TX5) (N := 11) (ty := .int) (v := .int (f 6)) B 4 1 6 [(h0, cV f), (a_1, .inr (4, [.int (f 0), .int (f 1), .int (f 2), .int (f 3), .int (f 4), .int (f 5), .int (f 6), .int 0, .int 0, .int 0, .int (-1)]))] in_X5 tyX5 tyX5_ok nmX5 rfl q306 rfl (Nat.le_of_ble_eq_true rfl) (fun _ h9 => h9) rfl rfl rfl rfl (Nat.le_of_ble_eq_true rfl) rfl dX5_copy_61 ?_
  refine g_aload_n B 1 0 dX5_copy_64 rfl rfl ?_
  refine g_aload_n B 0 1 dX5_copy_65 rfl rfl ?_
  refine g_get (C := RX5) (T := TX5) (N := 11) B 4 0 7 (.int (f 7)) in_X5 rfl q309 rfl (Nat.le_of_ble_eq_true rfl) (fun _ h9 => h9) rfl dX5_copy_66 ?_
  refine g_put (C := RX5) (T := TX5) (N := 11) (ty := .int) (v := .int (f 7)) B 4 1 7 [(h0, cV f), (a_1, .inr (4, [.int (f 0), .int (f 1), .int (f 2), .int (f 3), .int (f 4), .int (f 5), .int (f 6), .int (f 7), .int 0, .int 0, .int (-1)]))] in_X5 tyX5 tyX5_ok nmX5 rfl q309 rfl (Nat.le_of_ble_eq_true rfl) (fun _ h9 => h9) rfl rfl rfl rfl (Nat.le_of_ble_eq_true rfl) rfl dX5_copy_69 ?_
  refine g_aload_n B 1 0 dX5_copy_72 rfl rfl ?_
  refine g_aload_n B 0 1 dX5_copy_73 rfl rfl ?_
  refine g_get (C := RX5) (T := TX5) (N := 11) B 4 0 8 (.int (f 8)) in_X5 rfl q312 rfl (Nat.le_of_ble_eq_true rfl) (fun _ h9 => h9) rfl dX5_copy_74 ?_
  refine g_put (C := RX5) (T := TX5) (N := 11) (ty := .int) (v := .int (f 8)) B 4 1 8 [(h0, cV f), (a_1, .inr (4, [.int (f 0), .int (f 1), .int (f 2), .int (f 3), .int (f 4), .int (f 5), .int (f 6), .int (f 7), .int (f 8), .int 0, .int (-1)]))] in_X5 tyX5 tyX5_ok nmX5 rfl q312 rfl (Nat.le_of_ble_eq_true rfl) (fun _ h9 => h9) rfl rfl rfl rfl (Nat.le_of_ble_eq_true rfl) rfl dX5_copy_77 ?_
  refine g_aload_n B 1 0 dX5_copy_80 rfl rfl ?_
  refine g_aload_n B 0 1 dX5_copy_81 rfl rfl ?_
  refine g_get (C := RX5) (T := TX5) (N := 11) B 4 0 9 (.int (f 9)) in_X5 rfl q314 rfl (Nat.le_of_ble_eq_true rfl) (fun _ h9 => h9) rfl dX5_copy_82 ?_
  refine g_put (C := RX5) (T := TX5) (N := 11) (ty := .int) (v := .int (f 9)) B 4 1 9 [(h0, cV f), (a_1, .inr (4, [.int (f 0), .int (f 1), .int (f 2), .int (f 3), .int (f 4), .int (f 5), .int (f 6), .int (f 7), .int (f 8), .int (f 9), .int (-1)]))] in_X5 tyX5 tyX5_ok nmX5 rfl q314 rfl (Nat.le_of_ble_eq_true rfl) (fun _ h9 => h9) rfl rfl rfl rfl (Nat.le_of_ble_eq_true rfl) rfl dX5_copy_85 ?_
  refine g_aload_n B 1 0 dX5_copy_88 rfl rfl ?_
  refine g_aload_n B 0 1 dX5_copy_89 rfl rfl ?_
  refine g_get (C := RX5) (T := TX5) (N := 11) B 4 0 10 (.int (f 10)) in_X5 rfl q316 rfl (Nat.le_of_ble_eq_true rfl) (fun _ h9 => h9) rfl dX5_copy_90 ?_
  refine g_put (C := RX5) (T := TX5) (N := 11) (ty := .int) (v := .int (f 10)) B 4 1 10 [(h0, cV f), (a_1, .inr (4, [.int (f 0), .int (f 1), .int (f 2), .int (f 3), .int (f 4), .int (f 5), .int (f 6), .int (f 7), .int (f 8), .int (f 9), .int (f 10)]))] in_X5 tyX5 tyX5_ok nmX5 rfl q316 rfl (Nat.le_of_ble_eq_true rfl) (fun _ h9 => h9) rfl rfl rfl rfl (Nat.le_of_ble_eq_true rfl) rfl dX5_copy_93 ?_
  refine g_aload_n B 1 0 dX5_copy_96 rfl rfl ?_
  exact g_qret B hr (Or.inl ⟨_, rfl⟩) dX5_copy_97 (Nat.le_of_ble_eq_true rfl) (Nat.le_of_ble_eq_true rfl) a_1 rfl [0, 1] rfl rfl

set_option maxHeartbeats 4000000 in
set_option maxRecDepth 100000 in
theorem m_X2_init (l : Launch) (hst : l.stackTraces = false) (g : gG) (h0 a0 : Nat) : gMv l yX2_init cX2_init 2 4 84 2 203 g [(h0, .inr (1, [.null, .null, .int 0, .int 0, .int 0, .int 0, .int 0, .int 0, .int 0, .int 0, .int 0, .null]))] [.ref h0, .ref a0] (fun (u : Nat × Nat) => True) (fun u : Nat × Nat => [(h0, .inr (1, [.ref u.1, .ref u.2, .int 0, .int 0, .int 0, .int 0, .int 0, .int 0, .int 0, .int 0, .int 0, .ref a0])), (u.1, .inr (7, [.int 0, .ref g.2.2.2.2, .int 0])), (u.2, .inl (g.2.1, 200, .inl (fun _ => 0)))]) := by
  intro sz
  refine g_ent (by decide) hst [(0, .ref h0), (1, .ref a0)] (Nat.le_of_ble_eq_true rfl) rfl ?_
  intro p e s m below meth c B hr hnm hsz
  have B : gB p l s m ([.ref h0, .ref a0] : List Value).toArray meth c RX2 cX2_init 2 g (va_A [(h0, .inr (1, [.null, .null, .int 0, .int 0, .int 0, .int 0, .int 0, .int 0, .int 0, .int 0, .int 0, .null]))] sz) := B
  refine g_aload_n B 0 0 dX2_init_0 rfl rfl ?_
  refine g_aload_n B 1 1 dX2_init_1 rfl rfl ?_
  refine g_putF (C := RX2) (T := TX2) (N := 12) (ty := (.object "Melodeon")) (v := .ref a0) B 1 0 11 [(h0, .inr (1, [.null, .null, .int 0, .int 0, .int 0, .int 0, .int 0, .int 0, .int 0, .int 0, .int 0, .ref a0]))] in_X2 tyX2 tyX2_ok nmX2 rfl q112 rfl (Nat.le_of_ble_eq_true rfl) (fun _ h9 => h9) rfl hnm rfl rfl rfl rfl (Nat.le_of_ble_eq_true rfl) rfl dX2_init_2 ?_
  refine g_aload_n B 0 0 dX2_init_5 rfl rfl ?_
  refine g_objInit B q89 q55 q56 (Nat.le_of_ble_eq_true rfl) (Nat.le_of_ble_eq_true rfl) dX2_init_6 ?_
  refine g_aload_n B 0 0 dX2_init_9 rfl rfl ?_
  refine g_new (C := RJ2) (T := TJ2) (N := 3) B 7 [.int 0, .null, .int 0] in_J2 tyJ2 tyJ2_ok q90 q58 q29 rfl dfJ2 (Nat.le_of_ble_eq_true rfl) (Nat.le_of_ble_eq_true rfl) dX2_init_10 (fun a_1 => ?_)
  refine g_dup B dX2_init_13 rfl ?_
  refine g_cI_v (As := []) B (m_J2_init l hst g a_1) [1] [.ref a_1, .ref h0] (lw_meth q61) q29 q91 q60 rfl nsJ2_init rfl rfl (fun _ => rfl) rfl rfl (Nat.le_of_ble_eq_true rfl) dX2_init_14 ⟨Nat.le_of_ble_eq_true rfl, Nat.le_of_ble_eq_true rfl⟩ ⟨Nat.le_of_ble_eq_true rfl, Nat.le_of_ble_eq_true rfl⟩ (fun ur_2 hr_2 => ?_)
  refine g_eqw (ws' := [(h0, .inr (1, [.null, .null, .int 0, .int 0, .int 0, .int 0, .int 0, .int 0, .int 0, .int 0, .int 0, .ref a0])), (a_1, .inr (7, [.int 0, .ref g.2.2.2.2, .int 0]))]) rfl ?_
  refine g_putF (C := RX2) (T := TX2) (N := 12) (ty := (.object "java/util/ArrayList")) (v := .ref a_1) B 1 0 0 [(h0, .inr (1, [.ref a_1, .null, .int 0, .int 0, .int 0, .int 0, .int 0, .int 0, .int 0, .int 0, .int 0, .ref a0])), (a_1, .inr (7, [.int 0, .ref g.2.2.2.2, .int 0]))] in_X2 tyX2 tyX2_ok nmX2 rfl q92 rfl (Nat.le_of_ble_eq_true rfl) (fun _ h9 => h9) rfl hnm rfl rfl rfl rfl (Nat.le_of_ble_eq_true rfl) rfl dX2_init_17 ?_
  refine g_aload_n B 0 0 dX2_init_20 rfl rfl ?_
  refine g_sipush (v := 200) B dX2_init_21 ks_200 ?_
  refine g_newa B 200 q83 (by decide) (by decide) (Nat.le_of_ble_eq_true rfl) (Nat.le_of_ble_eq_true rfl) (Nat.le_of_ble_eq_true rfl) dX2_init_24 (fun a_3 => ?_)
  refine g_putF (C := RX2) (T := TX2) (N := 12) (ty := (.array .int)) (v := .ref a_3) B 1 0 1 [(h0, .inr (1, [.ref a_1, .ref a_3, .int 0, .int 0, .int 0, .int 0, .int 0, .int 0, .int 0, .int 0, .int 0, .ref a0])), (a_1, .inr (7, [.int 0, .ref g.2.2.2.2, .int 0])), (a_3, .inl (g.2.1, 200, .inl (fun _ => 0)))] in_X2 tyX2 tyX2_ok nmX2 rfl q94 rfl (Nat.le_of_ble_eq_true rfl) (fun _ h9 => h9) rfl hnm rfl rfl rfl rfl (Nat.le_of_ble_eq_true rfl) rfl dX2_init_26 ?_
  exact g_vret B hr dX2_init_29 (Nat.le_of_ble_eq_true rfl) (Nat.le_of_ble_eq_true rfl) (a_1, a_3) trivial [0, 1, 2] rfl rfl

set_option maxHeartbeats 4000000 in
set_option maxRecDepth 100000 in
theorem m_X2_copy (l : Launch) (hst : l.stackTraces = false) (g : gG) (ad ed : Nat → Nat) (en : Nat → Int32) (vf : Nat → Nat → Int32) (rw : Nat → Int32) (hp : en 4 = 0 ∨ en 4 = 1) : gMq l yX2_copy cX2_copy 3 (.object "Melodeon$Engine") 7 195 8 269 g [((ed 0), cE (ed 1) (ed 7) (ad 0) en), ((ed 1), cA (ed 2) al4), ((ed 2), .inl (g.2.2.1, 10, .inr (.inr (.inr (.inr (vq ed)))))), ((ed 3), cV (vf 0)), ((ed 4), cV (vf 1)), ((ed 5), cV (vf 2)), ((ed 6), cV (vf 3)), ((ed 7), .inl (g.2.1, 200, .inl rw))] [.ref (ed 0)] (fun (r : Option Nat) (u : Nat → Nat) => r = some (u 0)) (fun u : Nat → Nat => [((ed 0), cE (ed 1) (ed 7) (ad 0) en), ((ed 1), cA (ed 2) al4), ((ed 2), .inl (g.2.2.1, 10, .inr (.inr (.inr (.inr (vq ed)))))), ((ed 3), cV (vf 0)), ((ed 4), cV (vf 1)), ((ed 5), cV (vf 2)), ((ed 6), cV (vf 3)), ((ed 7), .inl (g.2.1, 200, .inl rw)), ((u 0), cE (u 1) (u 7) (ad 0) (e_cp en)), ((u 1), cA (u 2) al4), ((u 2), .inl (g.2.2.1, 10, .inr (.inr (.inr (.inr (vq u)))))), ((u 3), cV (vf 0)), ((u 4), cV (vf 1)), ((u 5), cV (vf 2)), ((u 6), cV (vf 3)), ((u 7), .inl (g.2.1, 200, .inl (rcp rw)))]) := by
  intro sz
  refine g_ent (by decide) hst [(0, .ref (ed 0))] (Nat.le_of_ble_eq_true rfl) rfl ?_
  intro p e s m below meth c B hr hnm hsz
  have B : gB p l s m ([.ref (ed 0)] : List Value).toArray meth c RX2 cX2_copy 3 g (va_A [((ed 0), cE (ed 1) (ed 7) (ad 0) en), ((ed 1), cA (ed 2) al4), ((ed 2), .inl (g.2.2.1, 10, .inr (.inr (.inr (.inr (vq ed)))))), ((ed 3), cV (vf 0)), ((ed 4), cV (vf 1)), ((ed 5), cV (vf 2)), ((ed 6), cV (vf 3)), ((ed 7), .inl (g.2.1, 200, .inl rw))] sz) := B
  refine g_new (C := RX2) (T := TX2) (N := 12) B 1 [.null, .null, .int 0, .int 0, .int 0, .int 0, .int 0, .int 0, .int 0, .int 0, .int 0, .null] in_X2 tyX2 tyX2_ok q881 q85 q30 rfl dfX2 (Nat.le_of_ble_eq_true rfl) (Nat.le_of_ble_eq_true rfl) dX2_copy_0 (fun a_1 => ?_)
  refine g_dup B dX2_copy_3 rfl ?_
  refine g_aload_n B 0 0 dX2_copy_4 rfl rfl ?_
  refine g_get (C := RX2) (T := TX2) (N := 12) B 1 0 11 (.ref (ad 0)) in_X2 rfl q112 rfl (Nat.le_of_ble_eq_true rfl) (fun _ h9 => h9) rfl dX2_copy_5 ?_
  refine g_cI_v (As := [.ref (ad 0)]) B (m_X2_init l hst g a_1 (ad 0)) [8] [.ref a_1] (lw_meth q88) q30 q882 q87 rfl nsX2_init rfl rfl (fun _ => rfl) rfl rfl (Nat.le_of_ble_eq_true rfl) dX2_copy_8 ⟨Nat.le_of_ble_eq_true rfl, Nat.le_of_ble_eq_true rfl⟩ ⟨Nat.le_of_ble_eq_true rfl, Nat.le_of_ble_eq_true rfl⟩ (fun ur_2 hr_2 => ?_)
  refine g_eqw (ws' := [((ed 0), cE (ed 1) (ed 7) (ad 0) en), ((ed 1), cA (ed 2) al4), ((ed 2), .inl (g.2.2.1, 10, .inr (.inr (.inr (.inr (vq ed)))))), ((ed 3), cV (vf 0)), ((ed 4), cV (vf 1)), ((ed 5), cV (vf 2)), ((ed 6), cV (vf 3)), ((ed 7), .inl (g.2.1, 200, .inl rw)), (a_1, .inr (1, [.ref ur_2.1, .ref ur_2.2, .int 0, .int 0, .int 0, .int 0, .int 0, .int 0, .int 0, .int 0, .int 0, .ref (ad 0)])), (ur_2.1, .inr (7, [.int 0, .ref g.2.2.2.2, .int 0])), (ur_2.2, .inl (g.2.1, 200, .inl (fun _ => 0)))]) rfl ?_
  refine g_astore_n B 1 [(1, .ref a_1), (0, .ref (ed 0))] dX2_copy_11 rfl (Nat.le_of_ble_eq_true rfl) rfl ?_
  refine g_iconst (v := 0) B dX2_copy_12 kc_0 ?_
  refine g_istore_n B 2 [(2, .int 0), (1, .ref a_1), (0, .ref (ed 0))] dX2_copy_13 rfl (Nat.le_of_ble_eq_true rfl) rfl ?_
  refine g_iload_n B 2 0 dX2_copy_14 rfl rfl ?_
  refine g_iconst (v := 4) B dX2_copy_15 kc_4 ?_
  refine g_icmp_ge_F (tgt := 47) B dX2_copy_16 (by decide) (by decide) ?_
  refine g_aload_n B 1 1 dX2_copy_19 rfl rfl ?_
  refine g_get (C := RX2) (T := TX2) (N := 12) B 1 8 0 (.ref ur_2.1) in_X2 rfl q92 rfl (Nat.le_of_ble_eq_true rfl) (fun _ h9 => h9) rfl dX2_copy_20 ?_
  refine g_aload_n B 0 2 dX2_copy_23 rfl rfl ?_
  refine g_get (C := RX2) (T := TX2) (N := 12) B 1 0 0 (.ref (ed 1)) in_X2 rfl q92 rfl (Nat.le_of_ble_eq_true rfl) (fun _ h9 => h9) rfl dX2_copy_24 ?_
  refine g_iload_n B 2 0 dX2_copy_27 rfl rfl ?_
  refine g_cuV_q (C := RJ2) (T := TJ2) (N := 3) (As := [.int 0]) B (m_J2_get l hst g (ed 1) (ed 2) al4 10 (vq ed) 0 0 (ed 3) (by decide) (by decide) (by decide) (vpc rfl) rfl) 7 0 rfl rfl [1, 2] [.ref ur_2.1] (lw_V q410 q411 q412 q29 q413) nvJ2_get rfl rfl rfl rfl (Nat.le_of_ble_eq_true rfl) dX2_copy_28 ⟨Nat.le_of_ble_eq_true rfl, Nat.le_of_ble_eq_true rfl⟩ ⟨Nat.le_of_ble_eq_true rfl, Nat.le_of_ble_eq_true rfl⟩ (fun r_3 ur_3 hr_3 => ?_)
  obtain rfl : some (ed 3) = r_3 := (hr_3).symm
  refine g_eqs (st' := [.ref (ed 3), .ref ur_2.1]) rfl ?_
  refine g_cast (C := RX5) (T := TX5) (N := 11) B 4 3 q424 rfl rfl dX2_copy_31 ?_
  refine g_cV_q (C := RX5) (T := TX5) (N := 11) (As := []) B (m_X5_copy l hst g (ed 3) (vf 0)) 4 0 rfl rfl [3] [.ref ur_2.1] (lw_V q883 q884 q885 q37 q886) nvX5_copy rfl rfl (fun _ => rfl) rfl rfl (Nat.le_of_ble_eq_true rfl) dX2_copy_34 ⟨Nat.le_of_ble_eq_true rfl, Nat.le_of_ble_eq_true rfl⟩ ⟨Nat.le_of_ble_eq_true rfl, Nat.le_of_ble_eq_true rfl⟩ (fun r_4 ur_4 hr_4 => ?_)
  refine g_eqw (ws' := [((ed 0), cE (ed 1) (ed 7) (ad 0) en), ((ed 1), cA (ed 2) al4), ((ed 2), .inl (g.2.2.1, 10, .inr (.inr (.inr (.inr (vq ed)))))), ((ed 3), cV (vf 0)), ((ed 4), cV (vf 1)), ((ed 5), cV (vf 2)), ((ed 6), cV (vf 3)), ((ed 7), .inl (g.2.1, 200, .inl rw)), (a_1, .inr (1, [.ref ur_2.1, .ref ur_2.2, .int 0, .int 0, .int 0, .int 0, .int 0, .int 0, .int 0, .int 0, .int 0, .ref (ad 0)])), (ur_2.1, .inr (7, [.int 0, .ref g.2.2.2.2, .int 0])), (ur_2.2, .inl (g.2.1, 200, .inl (fun _ => 0))), (ur_4, cV (vf 0))]) rfl ?_
  obtain rfl : some ur_4 = r_4 := (hr_4).symm
  refine g_eqs (st' := [.ref ur_4, .ref ur_2.1]) rfl ?_
  refine g_cV_i (C := RJ2) (T := TJ2) (N := 3) (As := [.ref ur_4]) B (m_J2_add_0 l hst g ur_2.1 ur_4 4 ([.int ((vf 0) 0), .int ((vf 0) 1), .int ((vf 0) 2), .int ((vf 0) 3), .int ((vf 0) 4), .int ((vf 0) 5), .int ((vf 0) 6), .int ((vf 0) 7), .int ((vf 0) 8), .int ((vf 0) 9), .int ((vf 0) 10)]) RX5 TX5 11 rfl q1330) 7 0 rfl rfl [9, 11] [] (lw_V q889 q201 q202 q29 q203) nvJ2_add rfl rfl (fun _ => rfl) rfl rfl (Nat.le_of_ble_eq_true rfl) dX2_copy_37 ⟨Nat.le_of_ble_eq_true rfl, Nat.le_of_ble_eq_true rfl⟩ ⟨Nat.le_of_ble_eq_true rfl, Nat.le_of_ble_eq_true rfl⟩ (fun r_5 ur_5 hr_5 => ?_)
  refine g_eqw (ws' := [((ed 0), cE (ed 1) (ed 7) (ad 0) en), ((ed 1), cA (ed 2) al4), ((ed 2), .inl (g.2.2.1, 10, .inr (.inr (.inr (.inr (vq ed)))))), ((ed 3), cV (vf 0)), ((ed 4), cV (vf 1)), ((ed 5), cV (vf 2)), ((ed 6), cV (vf 3)), ((ed 7), .inl (g.2.1, 200, .inl rw)), (a_1, .inr (1, [.ref ur_2.1, .ref ur_2.2, .int 0, .int 0, .int 0, .int 0, .int 0, .int 0, .int 0, .int 0, .int 0, .ref (ad 0)])), (ur_2.1, .inr (7, [.int 1, .ref ur_5, .int 1])), (ur_2.2, .inl (g.2.1, 200, .inl (fun _ => 0))), (ur_4, cV (vf 0)), (ur_5, .inl (g.2.2.1, 10, .inr (.inr (.inr (.inr (va_up (fun _ => none) 0 (some ur_4)))))))]) rfl ?_
  have hr_5 : r_5 = 1 := hr_5
  refine g_pop B dX2_copy_40 rfl ?_
  refine g_iinc B 0 1 [(2, .int 1), (1, .ref a_1), (0, .ref (ed 0))] dX2_copy_41 rfl (by decide) (Nat.le_of_ble_eq_true rfl) rfl ?_
  refine g_goto (tgt := 14) B dX2_copy_44 (by decide) ?_
  refine g_iload_n B 2 0 dX2_copy_14 rfl rfl ?_
  refine g_iconst (v := 4) B dX2_copy_15 kc_4 ?_
  refine g_icmp_ge_F (tgt := 47) B dX2_copy_16 (by decide) (by decide) ?_
  refine g_aload_n B 1 1 dX2_copy_19 rfl rfl ?_
  refine g_get (C := RX2) (T := TX2) (N := 12) B 1 8 0 (.ref ur_2.1) in_X2 rfl q92 rfl (Nat.le_of_ble_eq_true rfl) (fun _ h9 => h9) rfl dX2_copy_20 ?_
  refine g_aload_n B 0 2 dX2_copy_23 rfl rfl ?_
  refine g_get (C := RX2) (T := TX2) (N := 12) B 1 0 0 (.ref (ed 1)) in_X2 rfl q92 rfl (Nat.le_of_ble_eq_true rfl) (fun _ h9 => h9) rfl dX2_copy_24 ?_
  refine g_iload_n B 2 0 dX2_copy_27 rfl rfl ?_
  refine g_cuV_q (C := RJ2) (T := TJ2) (N := 3) (As := [.int 1]) B (m_J2_get l hst g (ed 1) (ed 2) al4 10 (vq ed) 1 1 (ed 4) (by decide) (by decide) (by decide) (vpc rfl) rfl) 7 0 rfl rfl [1, 2] [.ref ur_2.1] (lw_V q410 q411 q412 q29 q413) nvJ2_get rfl rfl rfl rfl (Nat.le_of_ble_eq_true rfl) dX2_copy_28 ⟨Nat.le_of_ble_eq_true rfl, Nat.le_of_ble_eq_true rfl⟩ ⟨Nat.le_of_ble_eq_true rfl, Nat.le_of_ble_eq_true rfl⟩ (fun r_6 ur_6 hr_6 => ?_)
  obtain rfl : some (ed 4) = r_6 := (hr_6).symm
  refine g_eqs (st' := [.ref (ed 4), .ref ur_2.1]) rfl ?_
  refine g_cast (C := RX5) (T := TX5) (N := 11) B 4 4 q424 rfl rfl dX2_copy_31 ?_
  refine g_cV_q (C := RX5) (T := TX5) (N := 11) (As := []) B (m_X5_copy l hst g (ed 4) (vf 1)) 4 0 rfl rfl [4] [.ref ur_2.1] (lw_V q883 q884 q885 q37 q886) nvX5_copy rfl rfl (fun _ => rfl) rfl rfl (Nat.le_of_ble_eq_true rfl) dX2_copy_34 ⟨Nat.le_of_ble_eq_true rfl, Nat.le_of_ble_eq_true rfl⟩ ⟨Nat.le_of_ble_eq_true rfl, Nat.le_of_ble_eq_true rfl⟩ (fun r_7 ur_7 hr_7 => ?_)
  refine g_eqw (ws' := [((ed 0), cE (ed 1) (ed 7) (ad 0) en), ((ed 1), cA (ed 2) al4), ((ed 2), .inl (g.2.2.1, 10, .inr (.inr (.inr (.inr (vq ed)))))), ((ed 3), cV (vf 0)), ((ed 4), cV (vf 1)), ((ed 5), cV (vf 2)), ((ed 6), cV (vf 3)), ((ed 7), .inl (g.2.1, 200, .inl rw)), (a_1, .inr (1, [.ref ur_2.1, .ref ur_2.2, .int 0, .int 0, .int 0, .int 0, .int 0, .int 0, .int 0, .int 0, .int 0, .ref (ad 0)])), (ur_2.1, .inr (7, [.int 1, .ref ur_5, .int 1])), (ur_2.2, .inl (g.2.1, 200, .inl (fun _ => 0))), (ur_4, cV (vf 0)), (ur_5, .inl (g.2.2.1, 10, .inr (.inr (.inr (.inr (va_up (fun _ => none) 0 (some ur_4))))))), (ur_7, cV (vf 1))]) rfl ?_
  obtain rfl : some ur_7 = r_7 := (hr_7).symm
  refine g_eqs (st' := [.ref ur_7, .ref ur_2.1]) rfl ?_
  refine g_cV_i (C := RJ2) (T := TJ2) (N := 3) (As := [.ref ur_7]) B (m_J2_add_1 l hst g ur_2.1 ur_5 1 2 1 (va_up (fun _ => none) 0 (some ur_4)) (by decide) (by decide) (vpc rfl) (by decide) ur_7 4 ([.int ((vf 1) 0), .int ((vf 1) 1), .int ((vf 1) 2), .int ((vf 1) 3), .int ((vf 1) 4), .int ((vf 1) 5), .int ((vf 1) 6), .int ((vf 1) 7), .int ((vf 1) 8), .int ((vf 1) 9), .int ((vf 1) 10)]) RX5 TX5 11 rfl q1330) 7 0 rfl rfl [9, 13, 12] [] (lw_V q889 q201 q202 q29 q203) nvJ2_add rfl rfl (fun _ => rfl) rfl rfl (Nat.le_of_ble_eq_true rfl) dX2_copy_37 ⟨Nat.le_of_ble_eq_true rfl, Nat.le_of_ble_eq_true rfl⟩ ⟨Nat.le_of_ble_eq_true rfl, Nat.le_of_ble_eq_true rfl⟩ (fun r_8 ur_8 hr_8 => ?_)
  refine g_eqw (ws' := [((ed 0), cE (ed 1) (ed 7) (ad 0) en), ((ed 1), cA (ed 2) al4), ((ed 2), .inl (g.2.2.1, 10, .inr (.inr (.inr (.inr (vq ed)))))), ((ed 3), cV (vf 0)), ((ed 4), cV (vf 1)), ((ed 5), cV (vf 2)), ((ed 6), cV (vf 3)), ((ed 7), .inl (g.2.1, 200, .inl rw)), (a_1, .inr (1, [.ref ur_2.1, .ref ur_2.2, .int 0, .int 0, .int 0, .int 0, .int 0, .int 0, .int 0, .int 0, .int 0, .ref (ad 0)])), (ur_2.1, .inr (7, [.int 2, .ref ur_5, .int 2])), (ur_2.2, .inl (g.2.1, 200, .inl (fun _ => 0))), (ur_4, cV (vf 0)), (ur_5, .inl (g.2.2.1, 10, .inr (.inr (.inr (.inr (va_up (va_up (fun _ => none) 0 (some ur_4)) 1 (some ur_7))))))), (ur_7, cV (vf 1))]) rfl ?_
  have hr_8 : r_8 = 1 := hr_8
  refine g_pop B dX2_copy_40 rfl ?_
  refine g_iinc B 0 2 [(2, .int 2), (1, .ref a_1), (0, .ref (ed 0))] dX2_copy_41 rfl (by decide) (Nat.le_of_ble_eq_true rfl) rfl ?_
  refine g_goto (tgt := 14) B dX2_copy_44 (by decide) ?_
  refine g_iload_n B 2 0 dX2_copy_14 rfl rfl ?_
  refine g_iconst (v := 4) B dX2_copy_15 kc_4 ?_
  refine g_icmp_ge_F (tgt := 47) B dX2_copy_16 (by decide) (by decide) ?_
  refine g_aload_n B 1 1 dX2_copy_19 rfl rfl ?_
  refine g_get (C := RX2) (T := TX2) (N := 12) B 1 8 0 (.ref ur_2.1) in_X2 rfl q92 rfl (Nat.le_of_ble_eq_true rfl) (fun _ h9 => h9) rfl dX2_copy_20 ?_
  refine g_aload_n B 0 2 dX2_copy_23 rfl rfl ?_
  refine g_get (C := RX2) (T := TX2) (N := 12) B 1 0 0 (.ref (ed 1)) in_X2 rfl q92 rfl (Nat.le_of_ble_eq_true rfl) (fun _ h9 => h9) rfl dX2_copy_24 ?_
  refine g_iload_n B 2 0 dX2_copy_27 rfl rfl ?_
  refine g_cuV_q (C := RJ2) (T := TJ2) (N := 3) (As := [.int 2]) B (m_J2_get l hst g (ed 1) (ed 2) al4 10 (vq ed) 2 2 (ed 5) (by decide) (by decide) (by decide) (vpc rfl) rfl) 7 0 rfl rfl [1, 2] [.ref ur_2.1] (lw_V q410 q411 q412 q29 q413) nvJ2_get rfl rfl rfl rfl (Nat.le_of_ble_eq_true rfl) dX2_copy_28 ⟨Nat.le_of_ble_eq_true rfl, Nat.le_of_ble_eq_true rfl⟩ ⟨Nat.le_of_ble_eq_true rfl, Nat.le_of_ble_eq_true rfl⟩ (fun r_9 ur_9 hr_9 => ?_)
  obtain rfl : some (ed 5) = r_9 := (hr_9).symm
  refine g_eqs (st' := [.ref (ed 5), .ref ur_2.1]) rfl ?_
  refine g_cast (C := RX5) (T := TX5) (N := 11) B 4 5 q424 rfl rfl dX2_copy_31 ?_
  refine g_cV_q (C := RX5) (T := TX5) (N := 11) (As := []) B (m_X5_copy l hst g (ed 5) (vf 2)) 4 0 rfl rfl [5] [.ref ur_2.1] (lw_V q883 q884 q885 q37 q886) nvX5_copy rfl rfl (fun _ => rfl) rfl rfl (Nat.le_of_ble_eq_true rfl) dX2_copy_34 ⟨Nat.le_of_ble_eq_true rfl, Nat.le_of_ble_eq_true rfl⟩ ⟨Nat.le_of_ble_eq_true rfl, Nat.le_of_ble_eq_true rfl⟩ (fun r_10 ur_10 hr_10 => ?_)
  refine g_eqw (ws' := [((ed 0), cE (ed 1) (ed 7) (ad 0) en), ((ed 1), cA (ed 2) al4), ((ed 2), .inl (g.2.2.1, 10, .inr (.inr (.inr (.inr (vq ed)))))), ((ed 3), cV (vf 0)), ((ed 4), cV (vf 1)), ((ed 5), cV (vf 2)), ((ed 6), cV (vf 3)), ((ed 7), .inl (g.2.1, 200, .inl rw)), (a_1, .inr (1, [.ref ur_2.1, .ref ur_2.2, .int 0, .int 0, .int 0, .int 0, .int 0, .int 0, .int 0, .int 0, .int 0, .ref (ad 0)])), (ur_2.1, .inr (7, [.int 2, .ref ur_5, .int 2])), (ur_2.2, .inl (g.2.1, 200, .inl (fun _ => 0))), (ur_4, cV (vf 0)), (ur_5, .inl (g.2.2.1, 10, .inr (.inr (.inr (.inr (va_up (va_up (fun _ => none) 0 (some ur_4)) 1 (some ur_7))))))), (ur_7, cV (vf 1)), (ur_10, cV (vf 2))]) rfl ?_
  obtain rfl : some ur_10 = r_10 := (hr_10).symm
  refine g_eqs (st' := [.ref ur_10, .ref ur_2.1]) rfl ?_
  refine g_cV_i (C := RJ2) (T := TJ2) (N := 3) (As := [.ref ur_10]) B (m_J2_add_1 l hst g ur_2.1 ur_5 2 3 2 (va_up (va_up (fun _ => none) 0 (some ur_4)) 1 (some ur_7)) (by decide) (by decide) (vpc rfl) (by decide) ur_10 4 ([.int ((vf 2) 0), .int ((vf 2) 1), .int ((vf 2) 2), .int ((vf 2) 3), .int ((vf 2) 4), .int ((vf 2) 5), .int ((vf 2) 6), .int ((vf 2) 7), .int ((vf 2) 8), .int ((vf 2) 9), .int ((vf 2) 10)]) RX5 TX5 11 rfl q1330) 7 0 rfl rfl [9, 14, 12] [] (lw_V q889 q201 q202 q29 q203) nvJ2_add rfl rfl (fun _ => rfl) rfl rfl (Nat.le_of_ble_eq_true rfl) dX2_copy_37 ⟨Nat.le_of_ble_eq_true rfl, Nat.le_of_ble_eq_true rfl⟩ ⟨Nat.le_of_ble_eq_true rfl, Nat.le_of_ble_eq_true rfl⟩ (fun r_11 ur_11 hr_11 => ?_)
  refine g_eqw (ws' := [((ed 0), cE (ed 1) (ed 7) (ad 0) en), ((ed 1), cA (ed 2) al4), ((ed 2), .inl (g.2.2.1, 10, .inr (.inr (.inr (.inr (vq ed)))))), ((ed 3), cV (vf 0)), ((ed 4), cV (vf 1)), ((ed 5), cV (vf 2)), ((ed 6), cV (vf 3)), ((ed 7), .inl (g.2.1, 200, .inl rw)), (a_1, .inr (1, [.ref ur_2.1, .ref ur_2.2, .int 0, .int 0, .int 0, .int 0, .int 0, .int 0, .int 0, .int 0, .int 0, .ref (ad 0)])), (ur_2.1, .inr (7, [.int 3, .ref ur_5, .int 3])), (ur_2.2, .inl (g.2.1, 200, .inl (fun _ => 0))), (ur_4, cV (vf 0)), (ur_5, .inl (g.2.2.1, 10, .inr (.inr (.inr (.inr (va_up (va_up (va_up (fun _ => none) 0 (some ur_4)) 1 (some ur_7)) 2 (some ur_10))))))), (ur_7, cV (vf 1)), (ur_10, cV (vf 2))]) rfl ?_
  have hr_11 : r_11 = 1 := hr_11
  refine g_pop B dX2_copy_40 rfl ?_
  refine g_iinc B 0 3 [(2, .int 3), (1, .ref a_1), (0, .ref (ed 0))] dX2_copy_41 rfl (by decide) (Nat.le_of_ble_eq_true rfl) rfl ?_
  refine g_goto (tgt := 14) B dX2_copy_44 (by decide) ?_
  refine g_iload_n B 2 0 dX2_copy_14 rfl rfl ?_
  refine g_iconst (v := 4) B dX2_copy_15 kc_4 ?_
  refine g_icmp_ge_F (tgt := 47) B dX2_copy_16 (by decide) (by decide) ?_
  refine g_aload_n B 1 1 dX2_copy_19 rfl rfl ?_
  refine g_get (C := RX2) (T := TX2) (N := 12) B 1 8 0 (.ref ur_2.1) in_X2 rfl q92 rfl (Nat.le_of_ble_eq_true rfl) (fun _ h9 => h9) rfl dX2_copy_20 ?_
  refine g_aload_n B 0 2 dX2_copy_23 rfl rfl ?_
  refine g_get (C := RX2) (T := TX2) (N := 12) B 1 0 0 (.ref (ed 1)) in_X2 rfl q92 rfl (Nat.le_of_ble_eq_true rfl) (fun _ h9 => h9) rfl dX2_copy_24 ?_
  refine g_iload_n B 2 0 dX2_copy_27 rfl rfl ?_
  refine g_cuV_q (C := RJ2) (T := TJ2) (N := 3) (As := [.int 3]) B (m_J2_get l hst g (ed 1) (ed 2) al4 10 (vq ed) 3 3 (ed 6) (by decide) (by decide) (by decide) (vpc rfl) rfl) 7 0 rfl rfl [1, 2] [.ref ur_2.1] (lw_V q410 q411 q412 q29 q413) nvJ2_get rfl rfl rfl rfl (Nat.le_of_ble_eq_true rfl) dX2_copy_28 ⟨Nat.le_of_ble_eq_true rfl, Nat.le_of_ble_eq_true rfl⟩ ⟨Nat.le_of_ble_eq_true rfl, Nat.le_of_ble_eq_true rfl⟩ (fun r_12 ur_12 hr_12 => ?_)
  obtain rfl : some (ed 6) = r_12 := (hr_12).symm
  refine g_eqs (st' := [.ref (ed 6), .ref ur_2.1]) rfl ?_
  refine g_cast (C := RX5) (T := TX5) (N := 11) B 4 6 q424 rfl rfl dX2_copy_31 ?_
  refine g_cV_q (C := RX5) (T := TX5) (N := 11) (As := []) B (m_X5_copy l hst g (ed 6) (vf 3)) 4 0 rfl rfl [6] [.ref ur_2.1] (lw_V q883 q884 q885 q37 q886) nvX5_copy rfl rfl (fun _ => rfl) rfl rfl (Nat.le_of_ble_eq_true rfl) dX2_copy_34 ⟨Nat.le_of_ble_eq_true rfl, Nat.le_of_ble_eq_true rfl⟩ ⟨Nat.le_of_ble_eq_true rfl, Nat.le_of_ble_eq_true rfl⟩ (fun r_13 ur_13 hr_13 => ?_)
  refine g_eqw (ws' := [((ed 0), cE (ed 1) (ed 7) (ad 0) en), ((ed 1), cA (ed 2) al4), ((ed 2), .inl (g.2.2.1, 10, .inr (.inr (.inr (.inr (vq ed)))))), ((ed 3), cV (vf 0)), ((ed 4), cV (vf 1)), ((ed 5), cV (vf 2)), ((ed 6), cV (vf 3)), ((ed 7), .inl (g.2.1, 200, .inl rw)), (a_1, .inr (1, [.ref ur_2.1, .ref ur_2.2, .int 0, .int 0, .int 0, .int 0, .int 0, .int 0, .int 0, .int 0, .int 0, .ref (ad 0)])), (ur_2.1, .inr (7, [.int 3, .ref ur_5, .int 3])), (ur_2.2, .inl (g.2.1, 200, .inl (fun _ => 0))), (ur_4, cV (vf 0)), (ur_5, .inl (g.2.2.1, 10, .inr (.inr (.inr (.inr (va_up (va_up (va_up (fun _ => none) 0 (some ur_4)) 1 (some ur_7)) 2 (some ur_10))))))), (ur_7, cV (vf 1)), (ur_10, cV (vf 2)), (ur_13, cV (vf 3))]) rfl ?_
  obtain rfl : some ur_13 = r_13 := (hr_13).symm
  refine g_eqs (st' := [.ref ur_13, .ref ur_2.1]) rfl ?_
  refine g_cV_i (C := RJ2) (T := TJ2) (N := 3) (As := [.ref ur_13]) B (m_J2_add_1 l hst g ur_2.1 ur_5 3 4 3 (va_up (va_up (va_up (fun _ => none) 0 (some ur_4)) 1 (some ur_7)) 2 (some ur_10)) (by decide) (by decide) (vpc rfl) (by decide) ur_13 4 ([.int ((vf 3) 0), .int ((vf 3) 1), .int ((vf 3) 2), .int ((vf 3) 3), .int ((vf 3) 4), .int ((vf 3) 5), .int ((vf 3) 6), .int ((vf 3) 7), .int ((vf 3) 8), .int ((vf 3) 9), .int ((vf 3) 10)]) RX5 TX5 11 rfl q1330) 7 0 rfl rfl [9, 15, 12] [] (lw_V q889 q201 q202 q29 q203) nvJ2_add rfl rfl (fun _ => rfl) rfl rfl (Nat.le_of_ble_eq_true rfl) dX2_copy_37 ⟨Nat.le_of_ble_eq_true rfl, Nat.le_of_ble_eq_true rfl⟩ ⟨Nat.le_of_ble_eq_true rfl, Nat.le_of_ble_eq_true rfl⟩ (fun r_14 ur_14 hr_14 => ?_)
  refine g_eqw (ws' := [((ed 0), cE (ed 1) (ed 7) (ad 0) en), ((ed 1), cA (ed 2) al4), ((ed 2), .inl (g.2.2.1, 10, .inr (.inr (.inr (.inr (vq ed)))))), ((ed 3), cV (vf 0)), ((ed 4), cV (vf 1)), ((ed 5), cV (vf 2)), ((ed 6), cV (vf 3)), ((ed 7), .inl (g.2.1, 200, .inl rw)), (a_1, .inr (1, [.ref ur_2.1, .ref ur_2.2, .int 0, .int 0, .int 0, .int 0, .int 0, .int 0, .int 0, .int 0, .int 0, .ref (ad 0)])), (ur_2.1, .inr (7, [.int 4, .ref ur_5, .int 4])), (ur_2.2, .inl (g.2.1, 200, .inl (fun _ => 0))), (ur_4, cV (vf 0)), (ur_5, .inl (g.2.2.1, 10, .inr (.inr (.inr (.inr (va_up (va_up (va_up (va_up (fun _ => none) 0 (some ur_4)) 1 (some ur_7)) 2 (some ur_10)) 3 (some ur_13))))))), (ur_7, cV (vf 1)), (ur_10, cV (vf 2)), (ur_13, cV (vf 3))]) rfl ?_
  have hr_14 : r_14 = 1 := hr_14
  refine g_pop B dX2_copy_40 rfl ?_
  refine g_iinc B 0 4 [(2, .int 4), (1, .ref a_1), (0, .ref (ed 0))] dX2_copy_41 rfl (by decide) (Nat.le_of_ble_eq_true rfl) rfl ?_
  refine g_goto (tgt := 14) B dX2_copy_44 (by decide) ?_
  refine g_iload_n B 2 0 dX2_copy_14 rfl rfl ?_
  refine g_iconst (v := 4) B dX2_copy_15 kc_4 ?_
  refine g_icmp_ge_T (tgt := 47) B dX2_copy_16 (by decide) (by decide) ?_
  refine g_aload_n B 0 2 dX2_copy_47 rfl rfl ?_
  refine g_get (C := RX2) (T := TX2) (N := 12) B 1 0 1 (.ref (ed 7)) in_X2 rfl q94 rfl (Nat.le_of_ble_eq_true rfl) (fun _ h9 => h9) rfl dX2_copy_48 ?_
  refine g_iconst (v := 0) B dX2_copy_51 kc_0 ?_
  refine g_aload_n B 1 1 dX2_copy_52 rfl rfl ?_
  refine g_get (C := RX2) (T := TX2) (N := 12) B 1 8 1 (.ref ur_2.2) in_X2 rfl q94 rfl (Nat.le_of_ble_eq_true rfl) (fun _ h9 => h9) rfl dX2_copy_53 ?_
  refine g_iconst (v := 0) B dX2_copy_56 kc_0 ?_
  refine g_sipush (v := 200) B dX2_copy_57 ks_200 ?_
  refine g_copyi B 7 10 [((ed 0), cE (ed 1) (ed 7) (ad 0) en), ((ed 1), cA (ed 2) al4), ((ed 2), .inl (g.2.2.1, 10, .inr (.inr (.inr (.inr (vq ed)))))), ((ed 3), cV (vf 0)), ((ed 4), cV (vf 1)), ((ed 5), cV (vf 2)), ((ed 6), cV (vf 3)), ((ed 7), .inl (g.2.1, 200, .inl rw)), (a_1, .inr (1, [.ref ur_2.1, .ref ur_2.2, .int 0, .int 0, .int 0, .int 0, .int 0, .int 0, .int 0, .int 0, .int 0, .ref (ad 0)])), (ur_2.1, .inr (7, [.int 4, .ref ur_5, .int 4])), (ur_2.2, .inl (g.2.1, 200, .inl (va_cpy rw (fun _ => 0) 0 0 200))), (ur_4, cV (vf 0)), (ur_5, .inl (g.2.2.1, 10, .inr (.inr (.inr (.inr (va_up (va_up (va_up (va_up (fun _ => none) 0 (some ur_4)) 1 (some ur_7)) 2 (some ur_10)) 3 (some ur_13))))))), (ur_7, cV (vf 1)), (ur_10, cV (vf 2)), (ur_13, cV (vf 3))] q890 q255 q254 q35 rfl rfl (by decide) (by decide) (by decide) (by decide) (by decide) (Nat.le_of_ble_eq_true rfl) (by decide) rfl dX2_copy_60 ?_
  refine g_aload_n B 1 1 dX2_copy_63 rfl rfl ?_
  refine g_aload_n B 0 2 dX2_copy_64 rfl rfl ?_
  refine g_get (C := RX2) (T := TX2) (N := 12) B 1 0 2 (.int (en 0)) in_X2 rfl q96 rfl (Nat.le_of_ble_eq_true rfl) (fun _ h9 => h9) rfl dX2_copy_65 ?_
  refine g_put (C := RX2) (T := TX2) (N := 12) (ty := .int) (v := .int (en 0)) B 1 8 2 [((ed 0), cE (ed 1) (ed 7) (ad 0) en), ((ed 1), cA (ed 2) al4), ((ed 2), .inl (g.2.2.1, 10, .inr (.inr (.inr (.inr (vq ed)))))), ((ed 3), cV (vf 0)), ((ed 4), cV (vf 1)), ((ed 5), cV (vf 2)), ((ed 6), cV (vf 3)), ((ed 7), .inl (g.2.1, 200, .inl rw)), (a_1, .inr (1, [.ref ur_2.1, .ref ur_2.2, .int (en 0), .int 0, .int 0, .int 0, .int 0, .int 0, .int 0, .int 0, .int 0, .ref (ad 0)])), (ur_2.1, .inr (7, [.int 4, .ref ur_5, .int 4])), (ur_2.2, .inl (g.2.1, 200, .inl (va_cpy rw (fun _ => 0) 0 0 200))), (ur_4, cV (vf 0)), (ur_5, .inl (g.2.2.1, 10, .inr (.inr (.inr (.inr (va_up (va_up (va_up (va_up (fun _ => none) 0 (some ur_4)) 1 (some ur_7)) 2 (some ur_10)) 3 (some ur_13))))))), (ur_7, cV (vf 1)), (ur_10, cV (vf 2)), (ur_13, cV (vf 3))] in_X2 tyX2 tyX2_ok nmX2 rfl q96 rfl (Nat.le_of_ble_eq_true rfl) (fun _ h9 => h9) rfl rfl rfl rfl (Nat.le_of_ble_eq_true rfl) rfl dX2_copy_68 ?_
  refine g_aload_n B 1 1 dX2_copy_71 rfl rfl ?_
  refine g_aload_n B 0 2 dX2_copy_72 rfl rfl ?_
  refine g_get (C := RX2) (T := TX2) (N := 12) B 1 0 3 (.int (en 1)) in_X2 rfl q98 rfl (Nat.le_of_ble_eq_true rfl) (fun _ h9 => h9) rfl dX2_copy_73 ?_
  refine g_put (C := RX2) (T := TX2) (N := 12) (ty := .int) (v := .int (en 1)) B 1 8 3 [((ed 0), cE (ed 1) (ed 7) (ad 0) en), ((ed 1), cA (ed 2) al4), ((ed 2), .inl (g.2.2.1, 10, .inr (.inr (.inr (.inr (vq ed)))))), ((ed 3), cV (vf 0)), ((ed 4), cV (vf 1)), ((ed 5), cV (vf 2)), ((ed 6), cV (vf 3)), ((ed 7), .inl (g.2.1, 200, .inl rw)), (a_1, .inr (1, [.ref ur_2.1, .ref ur_2.2, .int (en 0), .int (en 1), .int 0, .int 0, .int 0, .int 0, .int 0, .int 0, .int 0, .ref (ad 0)])), (ur_2.1, .inr (7, [.int 4, .ref ur_5, .int 4])), (ur_2.2, .inl (g.2.1, 200, .inl (va_cpy rw (fun _ => 0) 0 0 200))), (ur_4, cV (vf 0)), (ur_5, .inl (g.2.2.1, 10, .inr (.inr (.inr (.inr (va_up (va_up (va_up (va_up (fun _ => none) 0 (some ur_4)) 1 (some ur_7)) 2 (some ur_10)) 3 (some ur_13))))))), (ur_7, cV (vf 1)), (ur_10, cV (vf 2)), (ur_13, cV (vf 3))] in_X2 tyX2 tyX2_ok nmX2 rfl q98 rfl (Nat.le_of_ble_eq_true rfl) (fun _ h9 => h9) rfl rfl rfl rfl (Nat.le_of_ble_eq_true rfl) rfl dX2_copy_76 ?_
  refine g_aload_n B 1 1 dX2_copy_79 rfl rfl ?_
  refine g_aload_n B 0 2 dX2_copy_80 rfl rfl ?_
  refine g_get (C := RX2) (T := TX2) (N := 12) B 1 0 4 (.int (en 2)) in_X2 rfl q100 rfl (Nat.le_of_ble_eq_true rfl) (fun _ h9 => h9) rfl dX2_copy_81 ?_
  refine g_put (C := RX2) (T := TX2) (N := 12) (ty := .int) (v := .int (en 2)) B 1 8 4 [((ed 0), cE (ed 1) (ed 7) (ad 0) en), ((ed 1), cA (ed 2) al4), ((ed 2), .inl (g.2.2.1, 10, .inr (.inr (.inr (.inr (vq ed)))))), ((ed 3), cV (vf 0)), ((ed 4), cV (vf 1)), ((ed 5), cV (vf 2)), ((ed 6), cV (vf 3)), ((ed 7), .inl (g.2.1, 200, .inl rw)), (a_1, .inr (1, [.ref ur_2.1, .ref ur_2.2, .int (en 0), .int (en 1), .int (en 2), .int 0, .int 0, .int 0, .int 0, .int 0, .int 0, .ref (ad 0)])), (ur_2.1, .inr (7, [.int 4, .ref ur_5, .int 4])), (ur_2.2, .inl (g.2.1, 200, .inl (va_cpy rw (fun _ => 0) 0 0 200))), (ur_4, cV (vf 0)), (ur_5, .inl (g.2.2.1, 10, .inr (.inr (.inr (.inr (va_up (va_up (va_up (va_up (fun _ => none) 0 (some ur_4)) 1 (some ur_7)) 2 (some ur_10)) 3 (some ur_13))))))), (ur_7, cV (vf 1)), (ur_10, cV (vf 2)), (ur_13, cV (vf 3))] in_X2 tyX2 tyX2_ok nmX2 rfl q100 rfl (Nat.le_of_ble_eq_true rfl) (fun _ h9 => h9) rfl rfl rfl rfl (Nat.le_of_ble_eq_true rfl) rfl dX2_copy_84 ?_
  refine g_aload_n B 1 1 dX2_copy_87 rfl rfl ?_
  refine g_aload_n B 0 2 dX2_copy_88 rfl rfl ?_
  refine g_get (C := RX2) (T := TX2) (N := 12) B 1 0 5 (.int (en 3)) in_X2 rfl q101 rfl (Nat.le_of_ble_eq_true rfl) (fun _ h9 => h9) rfl dX2_copy_89 ?_
  refine g_put (C := RX2) (T := TX2) (N := 12) (ty := .int) (v := .int (en 3)) B 1 8 5 [((ed 0), cE (ed 1) (ed 7) (ad 0) en), ((ed 1), cA (ed 2) al4), ((ed 2), .inl (g.2.2.1, 10, .inr (.inr (.inr (.inr (vq ed)))))), ((ed 3), cV (vf 0)), ((ed 4), cV (vf 1)), ((ed 5), cV (vf 2)), ((ed 6), cV (vf 3)), ((ed 7), .inl (g.2.1, 200, .inl rw)), (a_1, .inr (1, [.ref ur_2.1, .ref ur_2.2, .int (en 0), .int (en 1), .int (en 2), .int (en 3), .int 0, .int 0, .int 0, .int 0, .int 0, .ref (ad 0)])), (ur_2.1, .inr (7, [.int 4, .ref ur_5, .int 4])), (ur_2.2, .inl (g.2.1, 200, .inl (va_cpy rw (fun _ => 0) 0 0 200))), (ur_4, cV (vf 0)), (ur_5, .inl (g.2.2.1, 10, .inr (.inr (.inr (.inr (va_up (va_up (va_up (va_up (fun _ => none) 0 (some ur_4)) 1 (some ur_7)) 2 (some ur_10)) 3 (some ur_13))))))), (ur_7, cV (vf 1)), (ur_10, cV (vf 2)), (ur_13, cV (vf 3))] in_X2 tyX2 tyX2_ok nmX2 rfl q101 rfl (Nat.le_of_ble_eq_true rfl) (fun _ h9 => h9) rfl rfl rfl rfl (Nat.le_of_ble_eq_true rfl) rfl dX2_copy_92 ?_
  refine g_aload_n B 1 1 dX2_copy_95 rfl rfl ?_
  refine g_aload_n B 0 2 dX2_copy_96 rfl rfl ?_
  refine g_get (C := RX2) (T := TX2) (N := 12) B 1 0 6 (.int (en 4)) in_X2 rfl q103 rfl (Nat.le_of_ble_eq_true rfl) (fun _ h9 => h9) rfl dX2_copy_97 ?_
  refine g_put (C := RX2) (T := TX2) (N := 12) (ty := .boolean) (v := .int (en 4)) B 1 8 6 [((ed 0), cE (ed 1) (ed 7) (ad 0) en), ((ed 1), cA (ed 2) al4), ((ed 2), .inl (g.2.2.1, 10, .inr (.inr (.inr (.inr (vq ed)))))), ((ed 3), cV (vf 0)), ((ed 4), cV (vf 1)), ((ed 5), cV (vf 2)), ((ed 6), cV (vf 3)), ((ed 7), .inl (g.2.1, 200, .inl rw)), (a_1, .inr (1, [.ref ur_2.1, .ref ur_2.2, .int (en 0), .int (en 1), .int (en 2), .int (en 3), .int (en 4), .int 0, .int 0, .int 0, .int 0, .ref (ad 0)])), (ur_2.1, .inr (7, [.int 4, .ref ur_5, .int 4])), (ur_2.2, .inl (g.2.1, 200, .inl (va_cpy rw (fun _ => 0) 0 0 200))), (ur_4, cV (vf 0)), (ur_5, .inl (g.2.2.1, 10, .inr (.inr (.inr (.inr (va_up (va_up (va_up (va_up (fun _ => none) 0 (some ur_4)) 1 (some ur_7)) 2 (some ur_10)) 3 (some ur_13))))))), (ur_7, cV (vf 1)), (ur_10, cV (vf 2)), (ur_13, cV (vf 3))] in_X2 tyX2 tyX2_ok nmX2 rfl q103 rfl (Nat.le_of_ble_eq_true rfl) (fun _ h9 => h9) rfl rfl (zb_n hp) (zb_f hp) (Nat.le_of_ble_eq_true rfl) rfl dX2_copy_100 ?_
  refine g_aload_n B 1 1 dX2_copy_103 rfl rfl ?_
  refine g_aload_n B 0 2 dX2_copy_104 rfl rfl ?_
  refine g_get (C := RX2) (T := TX2) (N := 12) B 1 0 7 (.int (en 5)) in_X2 rfl q105 rfl (Nat.le_of_ble_eq_true rfl) (fun _ h9 => h9) rfl dX2_copy_105 ?_
  refine g_put (C := RX2) (T := TX2) (N := 12) (ty := .int) (v := .int (en 5)) B 1 8 7 [((ed 0), cE (ed 1) (ed 7) (ad 0) en), ((ed 1), cA (ed 2) al4), ((ed 2), .inl (g.2.2.1, 10, .inr (.inr (.inr (.inr (vq ed)))))), ((ed 3), cV (vf 0)), ((ed 4), cV (vf 1)), ((ed 5), cV (vf 2)), ((ed 6), cV (vf 3)), ((ed 7), .inl (g.2.1, 200, .inl rw)), (a_1, .inr (1, [.ref ur_2.1, .ref ur_2.2, .int (en 0), .int (en 1), .int (en 2), .int (en 3), .int (en 4), .int (en 5), .int 0, .int 0, .int 0, .ref (ad 0)])), (ur_2.1, .inr (7, [.int 4, .ref ur_5, .int 4])), (ur_2.2, .inl (g.2.1, 200, .inl (va_cpy rw (fun _ => 0) 0 0 200))), (ur_4, cV (vf 0)), (ur_5, .inl (g.2.2.1, 10, .inr (.inr (.inr (.inr (va_up (va_up (va_up (va_up (fun _ => none) 0 (some ur_4)) 1 (some ur_7)) 2 (some ur_10)) 3 (some ur_13))))))), (ur_7, cV (vf 1)), (ur_10, cV (vf 2)), (ur_13, cV (vf 3))] in_X2 tyX2 tyX2_ok nmX2 rfl q105 rfl (Nat.le_of_ble_eq_true rfl) (fun _ h9 => h9) rfl rfl rfl rfl (Nat.le_of_ble_eq_true rfl) rfl dX2_copy_108 ?_
  refine g_aload_n B 1 1 dX2_copy_111 rfl rfl ?_
  refine g_aload_n B 0 2 dX2_copy_112 rfl rfl ?_
  refine g_get (C := RX2) (T := TX2) (N := 12) B 1 0 8 (.int (en 6)) in_X2 rfl q107 rfl (Nat.le_of_ble_eq_true rfl) (fun _ h9 => h9) rfl dX2_copy_113 ?_
  refine g_put (C := RX2) (T := TX2) (N := 12) (ty := .int) (v := .int (en 6)) B 1 8 8 [((ed 0), cE (ed 1) (ed 7) (ad 0) en), ((ed 1), cA (ed 2) al4), ((ed 2), .inl (g.2.2.1, 10, .inr (.inr (.inr (.inr (vq ed)))))), ((ed 3), cV (vf 0)), ((ed 4), cV (vf 1)), ((ed 5), cV (vf 2)), ((ed 6), cV (vf 3)), ((ed 7), .inl (g.2.1, 200, .inl rw)), (a_1, .inr (1, [.ref ur_2.1, .ref ur_2.2, .int (en 0), .int (en 1), .int (en 2), .int (en 3), .int (en 4), .int (en 5), .int (en 6), .int 0, .int 0, .ref (ad 0)])), (ur_2.1, .inr (7, [.int 4, .ref ur_5, .int 4])), (ur_2.2, .inl (g.2.1, 200, .inl (va_cpy rw (fun _ => 0) 0 0 200))), (ur_4, cV (vf 0)), (ur_5, .inl (g.2.2.1, 10, .inr (.inr (.inr (.inr (va_up (va_up (va_up (va_up (fun _ => none) 0 (some ur_4)) 1 (some ur_7)) 2 (some ur_10)) 3 (some ur_13))))))), (ur_7, cV (vf 1)), (ur_10, cV (vf 2)), (ur_13, cV (vf 3))] in_X2 tyX2 tyX2_ok nmX2 rfl q107 rfl (Nat.le_of_ble_eq_true rfl) (fun _ h9 => h9) rfl rfl rfl rfl (Nat.le_of_ble_eq_true rfl) rfl dX2_copy_116 ?_
  refine g_aload_n B 1 1 dX2_copy_119 rfl rfl ?_
  refine g_aload_n B 0 2 dX2_copy_120 rfl rfl ?_
  refine g_get (C := RX2) (T := TX2) (N := 12) B 1 0 9 (.int (en 7)) in_X2 rfl q109 rfl (Nat.le_of_ble_eq_true rfl) (fun _ h9 => h9) rfl dX2_copy_121 ?_
  refine g_put (C := RX2) (T := TX2) (N := 12) (ty := .int) (v := .int (en 7)) B 1 8 9 [((ed 0), cE (ed 1) (ed 7) (ad 0) en), ((ed 1), cA (ed 2) al4), ((ed 2), .inl (g.2.2.1, 10, .inr (.inr (.inr (.inr (vq ed)))))), ((ed 3), cV (vf 0)), ((ed 4), cV (vf 1)), ((ed 5), cV (vf 2)), ((ed 6), cV (vf 3)), ((ed 7), .inl (g.2.1, 200, .inl rw)), (a_1, .inr (1, [.ref ur_2.1, .ref ur_2.2, .int (en 0), .int (en 1), .int (en 2), .int (en 3), .int (en 4), .int (en 5), .int (en 6), .int (en 7), .int 0, .ref (ad 0)])), (ur_2.1, .inr (7, [.int 4, .ref ur_5, .int 4])), (ur_2.2, .inl (g.2.1, 200, .inl (va_cpy rw (fun _ => 0) 0 0 200))), (ur_4, cV (vf 0)), (ur_5, .inl (g.2.2.1, 10, .inr (.inr (.inr (.inr (va_up (va_up (va_up (va_up (fun _ => none) 0 (some ur_4)) 1 (some ur_7)) 2 (some ur_10)) 3 (some ur_13))))))), (ur_7, cV (vf 1)), (ur_10, cV (vf 2)), (ur_13, cV (vf 3))] in_X2 tyX2 tyX2_ok nmX2 rfl q109 rfl (Nat.le_of_ble_eq_true rfl) (fun _ h9 => h9) rfl rfl rfl rfl (Nat.le_of_ble_eq_true rfl) rfl dX2_copy_124 ?_
  refine g_aload_n B 1 1 dX2_copy_127 rfl rfl ?_
  refine g_eqw (ws' := [((ed 0), cE (ed 1) (ed 7) (ad 0) en), ((ed 1), cA (ed 2) al4), ((ed 2), .inl (g.2.2.1, 10, .inr (.inr (.inr (.inr (vq ed)))))), ((ed 3), cV (vf 0)), ((ed 4), cV (vf 1)), ((ed 5), cV (vf 2)), ((ed 6), cV (vf 3)), ((ed 7), .inl (g.2.1, 200, .inl rw)), (a_1, .inr (1, [.ref ur_2.1, .ref ur_2.2, .int (en 0), .int (en 1), .int (en 2), .int (en 3), .int (en 4), .int (en 5), .int (en 6), .int (en 7), .int 0, .ref (ad 0)])), (ur_2.1, .inr (7, [.int 4, .ref ur_5, .int 4])), (ur_2.2, .inl (g.2.1, 200, .inl (va_cpy rw (fun _ => 0) 0 0 200))), (ur_4, cV (vf 0)), (ur_5, .inl (g.2.2.1, 10, .inr (.inr (.inr (.inr (vq (mkL [a_1, ur_2.1, ur_5, ur_4, ur_7, ur_10, ur_13, ur_2.2]))))))), (ur_7, cV (vf 1)), (ur_10, cV (vf 2)), (ur_13, cV (vf 3))]) (by rw [vq_of (ed := (mkL [a_1, ur_2.1, ur_5, ur_4, ur_7, ur_10, ur_13, ur_2.2])) (a := ur_4) (b := ur_7) (c := ur_10) (d := ur_13) rfl rfl rfl rfl]) ?_
  subst hr_5
  subst hr_8
  subst hr_11
  subst hr_14
  exact g_qret B hr (Or.inl ⟨_, rfl⟩) dX2_copy_128 (Nat.le_of_ble_eq_true rfl) (Nat.le_of_ble_eq_true rfl) (mkL [a_1, ur_2.1, ur_5, ur_4, ur_7, ur_10, ur_13, ur_2.2]) rfl [0, 1, 2, 3, 4, 5, 6, 7, 8, 9, 12, 11, 13, 14, 15, 10] rfl rfl

set_option maxHeartbeats 4000000 in
set_option maxRecDepth 100000 in
theorem m_X3_init (l : Launch) (hst : l.stackTraces = false) (g : gG) (h0 : Nat) : gMv l yX3_init cX3_init 1 1 24 0 0 g [(h0, .inr (2, [.int 0, .int 0, .int 0, .int 0, .int 0, .int 0, .int 0, .int 0, .int 0, .int 0, .int 0, .int 0]))] [.ref h0] (fun (_ : Unit) => True) (fun _ : Unit => [(h0, cI i0)]) := by
  intro sz
  refine g_ent (by decide) hst [(0, .ref h0)] (Nat.le_of_ble_eq_true rfl) rfl ?_
  intro p e s m below meth c B hr hnm hsz
  have B : gB p l s m ([.ref h0] : List Value).toArray meth c RX3 cX3_init 1 g (va_A [(h0, .inr (2, [.int 0, .int 0, .int 0, .int 0, .int 0, .int 0, .int 0, .int 0, .int 0, .int 0, .int 0, .int 0]))] sz) := B
  refine g_aload_n B 0 0 dX3_init_0 rfl rfl ?_
  refine g_objInit B q143 q55 q56 (Nat.le_of_ble_eq_true rfl) (Nat.le_of_ble_eq_true rfl) dX3_init_1 ?_
  refine g_aload_n B 0 0 dX3_init_4 rfl rfl ?_
  refine g_bipush (v := 10) B dX3_init_5 kb_10 ?_
  refine g_put (C := RX3) (T := TX3) (N := 12) (ty := .int) (v := .int 10) B 2 0 4 [(h0, .inr (2, [.int 0, .int 0, .int 0, .int 0, .int 10, .int 0, .int 0, .int 0, .int 0, .int 0, .int 0, .int 0]))] in_X3 tyX3 tyX3_ok nmX3 rfl q152 rfl (Nat.le_of_ble_eq_true rfl) (fun _ h9 => h9) rfl rfl rfl rfl (Nat.le_of_ble_eq_true rfl) rfl dX3_init_7 ?_
  refine g_aload_n B 0 0 dX3_init_10 rfl rfl ?_
  refine g_bipush (v := 10) B dX3_init_11 kb_10 ?_
  refine g_put (C := RX3) (T := TX3) (N := 12) (ty := .int) (v := .int 10) B 2 0 5 [(h0, .inr (2, [.int 0, .int 0, .int 0, .int 0, .int 10, .int 10, .int 0, .int 0, .int 0, .int 0, .int 0, .int 0]))] in_X3 tyX3 tyX3_ok nmX3 rfl q155 rfl (Nat.le_of_ble_eq_true rfl) (fun _ h9 => h9) rfl rfl rfl rfl (Nat.le_of_ble_eq_true rfl) rfl dX3_init_13 ?_
  refine g_aload_n B 0 0 dX3_init_16 rfl rfl ?_
  refine g_sipush (v := 1000) B dX3_init_17 ks_1000 ?_
  refine g_put (C := RX3) (T := TX3) (N := 12) (ty := .int) (v := .int 1000) B 2 0 6 [(h0, .inr (2, [.int 0, .int 0, .int 0, .int 0, .int 10, .int 10, .int 1000, .int 0, .int 0, .int 0, .int 0, .int 0]))] in_X3 tyX3 tyX3_ok nmX3 rfl q158 rfl (Nat.le_of_ble_eq_true rfl) (fun _ h9 => h9) rfl rfl rfl rfl (Nat.le_of_ble_eq_true rfl) rfl dX3_init_20 ?_
  refine g_aload_n B 0 0 dX3_init_23 rfl rfl ?_
  refine g_bipush (v := 10) B dX3_init_24 kb_10 ?_
  refine g_put (C := RX3) (T := TX3) (N := 12) (ty := .int) (v := .int 10) B 2 0 7 [(h0, .inr (2, [.int 0, .int 0, .int 0, .int 0, .int 10, .int 10, .int 1000, .int 10, .int 0, .int 0, .int 0, .int 0]))] in_X3 tyX3 tyX3_ok nmX3 rfl q161 rfl (Nat.le_of_ble_eq_true rfl) (fun _ h9 => h9) rfl rfl rfl rfl (Nat.le_of_ble_eq_true rfl) rfl dX3_init_26 ?_
  refine g_aload_n B 0 0 dX3_init_29 rfl rfl ?_
  refine g_sipush (v := 128) B dX3_init_30 ks_128 ?_
  refine g_put (C := RX3) (T := TX3) (N := 12) (ty := .int) (v := .int 128) B 2 0 8 [(h0, .inr (2, [.int 0, .int 0, .int 0, .int 0, .int 10, .int 10, .int 1000, .int 10, .int 128, .int 0, .int 0, .int 0]))] in_X3 tyX3 tyX3_ok nmX3 rfl q164 rfl (Nat.le_of_ble_eq_true rfl) (fun _ h9 => h9) rfl rfl rfl rfl (Nat.le_of_ble_eq_true rfl) rfl dX3_init_33 ?_
  refine g_aload_n B 0 0 dX3_init_36 rfl rfl ?_
  refine g_sipush (v := 256) B dX3_init_37 ks_256 ?_
  refine g_put (C := RX3) (T := TX3) (N := 12) (ty := .int) (v := .int 256) B 2 0 9 [(h0, .inr (2, [.int 0, .int 0, .int 0, .int 0, .int 10, .int 10, .int 1000, .int 10, .int 128, .int 256, .int 0, .int 0]))] in_X3 tyX3 tyX3_ok nmX3 rfl q167 rfl (Nat.le_of_ble_eq_true rfl) (fun _ h9 => h9) rfl rfl rfl rfl (Nat.le_of_ble_eq_true rfl) rfl dX3_init_40 ?_
  refine g_aload_n B 0 0 dX3_init_43 rfl rfl ?_
  refine g_bipush (v := 64) B dX3_init_44 kb_64 ?_
  refine g_put (C := RX3) (T := TX3) (N := 12) (ty := .int) (v := .int 64) B 2 0 11 [(h0, .inr (2, [.int 0, .int 0, .int 0, .int 0, .int 10, .int 10, .int 1000, .int 10, .int 128, .int 256, .int 0, .int 64]))] in_X3 tyX3 tyX3_ok nmX3 rfl q172 rfl (Nat.le_of_ble_eq_true rfl) (fun _ h9 => h9) rfl rfl rfl rfl (Nat.le_of_ble_eq_true rfl) rfl dX3_init_46 ?_
  exact g_vret B hr dX3_init_49 (Nat.le_of_ble_eq_true rfl) (Nat.le_of_ble_eq_true rfl) () trivial [0] rfl rfl

set_option maxHeartbeats 4000000 in
set_option maxRecDepth 100000 in
theorem m_X4_init (l : Launch) (hst : l.stackTraces = false) (g : gG) (h0 : Nat) : gMv l yX4_init cX4_init 2 1 24 3 24 g [(h0, .inr (3, [.int 0, .null, .null, .null]))] [.ref h0] (fun (u : Nat × Nat × Nat) => True) (fun u : Nat × Nat × Nat => [(h0, .inr (3, [.int 0, .ref u.1, .ref u.2.1, .ref u.2.2])), (u.1, .inl (g.2.1, 8, .inl tp0)), (u.2.1, .inl (g.2.1, 8, .inl (fun _ => 0))), (u.2.2, .inl (g.2.1, 8, .inl (fun _ => 0)))]) := by
  intro sz
  refine g_ent (by decide) hst [(0, .ref h0)] (Nat.le_of_ble_eq_true rfl) rfl ?_
  intro p e s m below meth c B hr hnm hsz
  have B : gB p l s m ([.ref h0] : List Value).toArray meth c RX4 cX4_init 2 g (va_A [(h0, .inr (3, [.int 0, .null, .null, .null]))] sz) := B
  refine g_aload_n B 0 0 dX4_init_0 rfl rfl ?_
  refine g_objInit B q263 q55 q56 (Nat.le_of_ble_eq_true rfl) (Nat.le_of_ble_eq_true rfl) dX4_init_1 ?_
  refine g_aload_n B 0 0 dX4_init_4 rfl rfl ?_
  refine g_bipush (v := 8) B dX4_init_5 kb_8 ?_
  refine g_newa B 8 q83 (by decide) (by decide) (Nat.le_of_ble_eq_true rfl) (Nat.le_of_ble_eq_true rfl) (Nat.le_of_ble_eq_true rfl) dX4_init_7 (fun a_1 => ?_)
  refine g_putF (C := RX4) (T := TX4) (N := 4) (ty := (.array .int)) (v := .ref a_1) B 3 0 1 [(h0, .inr (3, [.int 0, .ref a_1, .null, .null])), (a_1, .inl (g.2.1, 8, .inl (fun _ => 0)))] in_X4 tyX4 tyX4_ok nmX4 rfl q266 rfl (Nat.le_of_ble_eq_true rfl) (fun _ h9 => h9) rfl hnm rfl rfl rfl rfl (Nat.le_of_ble_eq_true rfl) rfl dX4_init_9 ?_
  refine g_aload_n B 0 0 dX4_init_12 rfl rfl ?_
  refine g_bipush (v := 8) B dX4_init_13 kb_8 ?_
  refine g_newa B 8 q83 (by decide) (by decide) (Nat.le_of_ble_eq_true rfl) (Nat.le_of_ble_eq_true rfl) (Nat.le_of_ble_eq_true rfl) dX4_init_15 (fun a_2 => ?_)
  refine g_putF (C := RX4) (T := TX4) (N := 4) (ty := (.array .int)) (v := .ref a_2) B 3 0 2 [(h0, .inr (3, [.int 0, .ref a_1, .ref a_2, .null])), (a_1, .inl (g.2.1, 8, .inl (fun _ => 0))), (a_2, .inl (g.2.1, 8, .inl (fun _ => 0)))] in_X4 tyX4 tyX4_ok nmX4 rfl q269 rfl (Nat.le_of_ble_eq_true rfl) (fun _ h9 => h9) rfl hnm rfl rfl rfl rfl (Nat.le_of_ble_eq_true rfl) rfl dX4_init_17 ?_
  refine g_aload_n B 0 0 dX4_init_20 rfl rfl ?_
  refine g_bipush (v := 8) B dX4_init_21 kb_8 ?_
  refine g_newa B 8 q83 (by decide) (by decide) (Nat.le_of_ble_eq_true rfl) (Nat.le_of_ble_eq_true rfl) (Nat.le_of_ble_eq_true rfl) dX4_init_23 (fun a_3 => ?_)
  refine g_putF (C := RX4) (T := TX4) (N := 4) (ty := (.array .int)) (v := .ref a_3) B 3 0 3 [(h0, .inr (3, [.int 0, .ref a_1, .ref a_2, .ref a_3])), (a_1, .inl (g.2.1, 8, .inl (fun _ => 0))), (a_2, .inl (g.2.1, 8, .inl (fun _ => 0))), (a_3, .inl (g.2.1, 8, .inl (fun _ => 0)))] in_X4 tyX4 tyX4_ok nmX4 rfl q272 rfl (Nat.le_of_ble_eq_true rfl) (fun _ h9 => h9) rfl hnm rfl rfl rfl rfl (Nat.le_of_ble_eq_true rfl) rfl dX4_init_25 ?_
  refine g_iconst (v := 0) B dX4_init_28 kc_0 ?_
  refine g_istore_n B 1 [(1, .int 0), (0, .ref h0)] dX4_init_29 rfl (Nat.le_of_ble_eq_true rfl) rfl ?_
  refine g_iload_n B 1 0 dX4_init_30 rfl rfl ?_
  refine g_bipush (v := 8) B dX4_init_31 kb_8 ?_
  refine g_icmp_ge_F (tgt := 49) B dX4_init_33 (by decide) (by decide) ?_
  refine g_aload_n B 0 1 dX4_init_36 rfl rfl ?_
  refine g_get (C := RX4) (T := TX4) (N := 4) B 3 0 1 (.ref a_1) in_X4 rfl q266 rfl (Nat.le_of_ble_eq_true rfl) (fun _ h9 => h9) rfl dX4_init_37 ?_
  refine g_iload_n B 1 0 dX4_init_40 rfl rfl ?_
  refine g_iconst (v := (-1)) B dX4_init_41 kc_m1 ?_
  refine g_iast B 1 0 [(h0, .inr (3, [.int 0, .ref a_1, .ref a_2, .ref a_3])), (a_1, .inl (g.2.1, 8, .inl (upd (fun _ => 0) 0 (-1)))), (a_2, .inl (g.2.1, 8, .inl (fun _ => 0))), (a_3, .inl (g.2.1, 8, .inl (fun _ => 0)))] rfl (by decide) (vpc rfl) rfl dX4_init_42 ?_
  refine g_iinc B 0 1 [(1, .int 1), (0, .ref h0)] dX4_init_43 rfl (by decide) (Nat.le_of_ble_eq_true rfl) rfl ?_
  refine g_goto (tgt := 30) B dX4_init_46 (by decide) ?_
  refine g_iload_n B 1 0 dX4_init_30 rfl rfl ?_
  refine g_bipush (v := 8) B dX4_init_31 kb_8 ?_
  refine g_icmp_ge_F (tgt := 49) B dX4_init_33 (by decide) (by decide) ?_
  refine g_aload_n B 0 1 dX4_init_36 rfl rfl ?_
  refine g_get (C := RX4) (T := TX4) (N := 4) B 3 0 1 (.ref a_1) in_X4 rfl q266 rfl (Nat.le_of_ble_eq_true rfl) (fun _ h9 => h9) rfl dX4_init_37 ?_
  refine g_iload_n B 1 0 dX4_init_40 rfl rfl ?_
  refine g_iconst (v := (-1)) B dX4_init_41 kc_m1 ?_
  refine g_iast B 1 1 [(h0, .inr (3, [.int 0, .ref a_1, .ref a_2, .ref a_3])), (a_1, .inl (g.2.1, 8, .inl (upd (upd (fun _ => 0) 0 (-1)) 1 (-1)))), (a_2, .inl (g.2.1, 8, .inl (fun _ => 0))), (a_3, .inl (g.2.1, 8, .inl (fun _ => 0)))] rfl (by decide) (vpc rfl) rfl dX4_init_42 ?_
  refine g_iinc B 0 2 [(1, .int 2), (0, .ref h0)] dX4_init_43 rfl (by decide) (Nat.le_of_ble_eq_true rfl) rfl ?_
  refine g_goto (tgt := 30) B dX4_init_46 (by decide) ?_
  refine g_iload_n B 1 0 dX4_init_30 rfl rfl ?_
  refine g_bipush (v := 8) B dX4_init_31 kb_8 ?_
  refine g_icmp_ge_F (tgt := 49) B dX4_init_33 (by decide) (by decide) ?_
  refine g_aload_n B 0 1 dX4_init_36 rfl rfl ?_
  refine g_get (C := RX4) (T := TX4) (N := 4) B 3 0 1 (.ref a_1) in_X4 rfl q266 rfl (Nat.le_of_ble_eq_true rfl) (fun _ h9 => h9) rfl dX4_init_37 ?_
  refine g_iload_n B 1 0 dX4_init_40 rfl rfl ?_
  refine g_iconst (v := (-1)) B dX4_init_41 kc_m1 ?_
  refine g_iast B 1 2 [(h0, .inr (3, [.int 0, .ref a_1, .ref a_2, .ref a_3])), (a_1, .inl (g.2.1, 8, .inl (upd (upd (upd (fun _ => 0) 0 (-1)) 1 (-1)) 2 (-1)))), (a_2, .inl (g.2.1, 8, .inl (fun _ => 0))), (a_3, .inl (g.2.1, 8, .inl (fun _ => 0)))] rfl (by decide) (vpc rfl) rfl dX4_init_42 ?_
  refine g_iinc B 0 3 [(1, .int 3), (0, .ref h0)] dX4_init_43 rfl (by decide) (Nat.le_of_ble_eq_true rfl) rfl ?_
  refine g_goto (tgt := 30) B dX4_init_46 (by decide) ?_
  refine g_iload_n B 1 0 dX4_init_30 rfl rfl ?_
  refine g_bipush (v := 8) B dX4_init_31 kb_8 ?_
  refine g_icmp_ge_F (tgt := 49) B dX4_init_33 (by decide) (by decide) ?_
  refine g_aload_n B 0 1 dX4_init_36 rfl rfl ?_
  refine g_get (C := RX4) (T := TX4) (N := 4) B 3 0 1 (.ref a_1) in_X4 rfl q266 rfl (Nat.le_of_ble_eq_true rfl) (fun _ h9 => h9) rfl dX4_init_37 ?_
  refine g_iload_n B 1 0 dX4_init_40 rfl rfl ?_
  refine g_iconst (v := (-1)) B dX4_init_41 kc_m1 ?_
  refine g_iast B 1 3 [(h0, .inr (3, [.int 0, .ref a_1, .ref a_2, .ref a_3])), (a_1, .inl (g.2.1, 8, .inl (upd (upd (upd (upd (fun _ => 0) 0 (-1)) 1 (-1)) 2 (-1)) 3 (-1)))), (a_2, .inl (g.2.1, 8, .inl (fun _ => 0))), (a_3, .inl (g.2.1, 8, .inl (fun _ => 0)))] rfl (by decide) (vpc rfl) rfl dX4_init_42 ?_
  refine g_iinc B 0 4 [(1, .int 4), (0, .ref h0)] dX4_init_43 rfl (by decide) (Nat.le_of_ble_eq_true rfl) rfl ?_
  refine g_goto (tgt := 30) B dX4_init_46 (by decide) ?_
  refine g_iload_n B 1 0 dX4_init_30 rfl rfl ?_
  refine g_bipush (v := 8) B dX4_init_31 kb_8 ?_
  refine g_icmp_ge_F (tgt := 49) B dX4_init_33 (by decide) (by decide) ?_
  refine g_aload_n B 0 1 dX4_init_36 rfl rfl ?_
  refine g_get (C := RX4) (T := TX4) (N := 4) B 3 0 1 (.ref a_1) in_X4 rfl q266 rfl (Nat.le_of_ble_eq_true rfl) (fun _ h9 => h9) rfl dX4_init_37 ?_
  refine g_iload_n B 1 0 dX4_init_40 rfl rfl ?_
  refine g_iconst (v := (-1)) B dX4_init_41 kc_m1 ?_
  refine g_iast B 1 4 [(h0, .inr (3, [.int 0, .ref a_1, .ref a_2, .ref a_3])), (a_1, .inl (g.2.1, 8, .inl (upd (upd (upd (upd (upd (fun _ => 0) 0 (-1)) 1 (-1)) 2 (-1)) 3 (-1)) 4 (-1)))), (a_2, .inl (g.2.1, 8, .inl (fun _ => 0))), (a_3, .inl (g.2.1, 8, .inl (fun _ => 0)))] rfl (by decide) (vpc rfl) rfl dX4_init_42 ?_
  refine g_iinc B 0 5 [(1, .int 5), (0, .ref h0)] dX4_init_43 rfl (by decide) (Nat.le_of_ble_eq_true rfl) rfl ?_
  refine g_goto (tgt := 30) B dX4_init_46 (by decide) ?_
  refine g_iload_n B 1 0 dX4_init_30 rfl rfl ?_
  refine g_bipush (v := 8) B dX4_init_31 kb_8 ?_
  refine g_icmp_ge_F (tgt := 49) B dX4_init_33 (by decide) (by decide) ?_
  refine g_aload_n B 0 1 dX4_init_36 rfl rfl ?_
  refine g_get (C := RX4) (T := TX4) (N := 4) B 3 0 1 (.ref a_1) in_X4 rfl q266 rfl (Nat.le_of_ble_eq_true rfl) (fun _ h9 => h9) rfl dX4_init_37 ?_
  refine g_iload_n B 1 0 dX4_init_40 rfl rfl ?_
  refine g_iconst (v := (-1)) B dX4_init_41 kc_m1 ?_
  refine g_iast B 1 5 [(h0, .inr (3, [.int 0, .ref a_1, .ref a_2, .ref a_3])), (a_1, .inl (g.2.1, 8, .inl (upd (upd (upd (upd (upd (upd (fun _ => 0) 0 (-1)) 1 (-1)) 2 (-1)) 3 (-1)) 4 (-1)) 5 (-1)))), (a_2, .inl (g.2.1, 8, .inl (fun _ => 0))), (a_3, .inl (g.2.1, 8, .inl (fun _ => 0)))] rfl (by decide) (vpc rfl) rfl dX4_init_42 ?_
  refine g_iinc B 0 6 [(1, .int 6), (0, .ref h0)] dX4_init_43 rfl (by decide) (Nat.le_of_ble_eq_true rfl) rfl ?_
  refine g_goto (tgt := 30) B dX4_init_46 (by decide) ?_
  refine g_iload_n B 1 0 dX4_init_30 rfl rfl ?_
  refine g_bipush (v := 8) B dX4_init_31 kb_8 ?_
  refine g_icmp_ge_F (tgt := 49) B dX4_init_33 (by decide) (by decide) ?_
  refine g_aload_n B 0 1 dX4_init_36 rfl rfl ?_
  refine g_get (C := RX4) (T := TX4) (N := 4) B 3 0 1 (.ref a_1) in_X4 rfl q266 rfl (Nat.le_of_ble_eq_true rfl) (fun _ h9 => h9) rfl dX4_init_37 ?_
  refine g_iload_n B 1 0 dX4_init_40 rfl rfl ?_
  refine g_iconst (v := (-1)) B dX4_init_41 kc_m1 ?_
  refine g_iast B 1 6 [(h0, .inr (3, [.int 0, .ref a_1, .ref a_2, .ref a_3])), (a_1, .inl (g.2.1, 8, .inl (upd (upd (upd (upd (upd (upd (upd (fun _ => 0) 0 (-1)) 1 (-1)) 2 (-1)) 3 (-1)) 4 (-1)) 5 (-1)) 6 (-1)))), (a_2, .inl (g.2.1, 8, .inl (fun _ => 0))), (a_3, .inl (g.2.1, 8, .inl (fun _ => 0)))] rfl (by decide) (vpc rfl) rfl dX4_init_42 ?_
  refine g_iinc B 0 7 [(1, .int 7), (0, .ref h0)] dX4_init_43 rfl (by decide) (Nat.le_of_ble_eq_true rfl) rfl ?_
  refine g_goto (tgt := 30) B dX4_init_46 (by decide) ?_
  refine g_iload_n B 1 0 dX4_init_30 rfl rfl ?_
  refine g_bipush (v := 8) B dX4_init_31 kb_8 ?_
  refine g_icmp_ge_F (tgt := 49) B dX4_init_33 (by decide) (by decide) ?_
  refine g_aload_n B 0 1 dX4_init_36 rfl rfl ?_
  refine g_get (C := RX4) (T := TX4) (N := 4) B 3 0 1 (.ref a_1) in_X4 rfl q266 rfl (Nat.le_of_ble_eq_true rfl) (fun _ h9 => h9) rfl dX4_init_37 ?_
  refine g_iload_n B 1 0 dX4_init_40 rfl rfl ?_
  refine g_iconst (v := (-1)) B dX4_init_41 kc_m1 ?_
  refine g_iast B 1 7 [(h0, .inr (3, [.int 0, .ref a_1, .ref a_2, .ref a_3])), (a_1, .inl (g.2.1, 8, .inl (upd (upd (upd (upd (upd (upd (upd (upd (fun _ => 0) 0 (-1)) 1 (-1)) 2 (-1)) 3 (-1)) 4 (-1)) 5 (-1)) 6 (-1)) 7 (-1)))), (a_2, .inl (g.2.1, 8, .inl (fun _ => 0))), (a_3, .inl (g.2.1, 8, .inl (fun _ => 0)))] rfl (by decide) (vpc rfl) rfl dX4_init_42 ?_
  refine g_iinc B 0 8 [(1, .int 8), (0, .ref h0)] dX4_init_43 rfl (by decide) (Nat.le_of_ble_eq_true rfl) rfl ?_
  refine g_goto (tgt := 30) B dX4_init_46 (by decide) ?_
  refine g_iload_n B 1 0 dX4_init_30 rfl rfl ?_
  refine g_bipush (v := 8) B dX4_init_31 kb_8 ?_
  refine g_icmp_ge_T (tgt := 49) B dX4_init_33 (by decide) (by decide) ?_
  exact g_vret B hr dX4_init_49 (Nat.le_of_ble_eq_true rfl) (Nat.le_of_ble_eq_true rfl) (a_1, a_2, a_3) trivial [0, 1, 2, 3] rfl rfl
