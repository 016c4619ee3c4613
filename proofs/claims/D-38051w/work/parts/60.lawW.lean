/-! the law's world, its rows -/
set_option maxRecDepth 100000


set_option maxHeartbeats 4000000 in
set_option maxRecDepth 100000 in
theorem m_X6_thrown (l : Launch) (hst : l.stackTraces = false) (g : gG) (mo w : Nat) (th : Nat → Int32) : gMi l yX6_thrown cX6_thrown 1 .int 0 0 0 0 g [(mo, cO w th)] [.ref mo] (fun (r : Int32) (_ : Unit) => r = th 0) (fun _ : Unit => [(mo, cO w th)]) := by
  intro sz
  refine g_ent (by decide) hst [(0, .ref mo)] (Nat.le_of_ble_eq_true rfl) rfl ?_
  intro p e s m below meth c B hr hnm hsz
  have B : gB p l s m ([.ref mo] : List Value).toArray meth c RX6 cX6_thrown 1 g (va_A [(mo, cO w th)] sz) := B
  refine g_aload_n B 0 0 dX6_thrown_0 rfl rfl ?_
  refine g_get (C := RX6) (T := TX6) (N := 2) B 5 0 0 (.int (th 0)) in_X6 rfl q1048 rfl (Nat.le_of_ble_eq_true rfl) (fun _ h9 => h9) rfl dX6_thrown_1 ?_
  exact g_iret B hr dX6_thrown_4 (Nat.le_of_ble_eq_true rfl) (Nat.le_of_ble_eq_true rfl) () rfl [0] rfl rfl

abbrev lwS (g : gG) (ad ed dd : Nat → Nat) (mo ou : Nat) (mi : Nat → Int32) (lo su : Int64) (dr hd : Nat → Int32) (ig tr : Nat → Nat → Int32) (tw : Nat → Nat → Nat → Int32) (en : Nat → Int32) (vf : Nat → Nat → Int32) (rw th : Nat → Int32) (da : Nat → Nat → Int32) (di : Nat → Int32) (sm : Int64) (fo : Nat → Int64) : va_W := [((ad 0), cM ad (ed 0) mi lo su), ((ad 22), .inl (g.2.1, 64, .inl hd)), ((ad 1), .inl (g.2.1, 32, .inl dr)), ((ad 2), cA (ad 3) al4), ((ad 3), .inl (g.2.2.1, 10, .inr (.inr (.inr (.inr (iq ad)))))), ((ad 4), cI (ig 0)), ((ad 5), cI (ig 1)), ((ad 6), cI (ig 2)), ((ad 7), cI (ig 3)), ((ad 8), cA (ad 9) al3), ((ad 9), .inl (g.2.2.1, 10, .inr (.inr (.inr (.inr (tq ad)))))), ((ad 10), cT (ad 13) (ad 16) (ad 19) (tr 0)), ((ad 11), cT (ad 14) (ad 17) (ad 20) (tr 1)), ((ad 12), cT (ad 15) (ad 18) (ad 21) (tr 2)), ((ad 13), .inl (g.2.1, 8, .inl (tw 0 0))), ((ad 14), .inl (g.2.1, 8, .inl (tw 1 0))), ((ad 15), .inl (g.2.1, 8, .inl (tw 2 0))), ((ad 16), .inl (g.2.1, 8, .inl (tw 0 1))), ((ad 17), .inl (g.2.1, 8, .inl (tw 1 1))), ((ad 18), .inl (g.2.1, 8, .inl (tw 2 1))), ((ad 19), .inl (g.2.1, 8, .inl (tw 0 2))), ((ad 20), .inl (g.2.1, 8, .inl (tw 1 2))), ((ad 21), .inl (g.2.1, 8, .inl (tw 2 2))), ((ed 0), cE (ed 1) (ed 7) (ad 0) en), ((ed 1), cA (ed 2) al4), ((ed 2), .inl (g.2.2.1, 10, .inr (.inr (.inr (.inr (vq ed)))))), ((ed 3), cV (vf 0)), ((ed 4), cV (vf 1)), ((ed 5), cV (vf 2)), ((ed 6), cV (vf 3)), ((ed 7), .inl (g.2.1, 200, .inl rw)), (mo, cO (dd 0) th), ((dd 0), cD dd di sm), ((dd 1), .inl (g.2.1, 32, .inl (da 1))), ((dd 2), .inl (g.2.1, 48, .inl (da 2))), ((dd 3), .inl (g.2.1, 4, .inl (da 3))), ((dd 4), .inl (g.2.1, 4, .inl (da 4))), ((dd 5), .inl (g.2.1, 4, .inl (da 5))), ((dd 6), .inl (g.2.1, 4, .inl (da 6))), ((dd 7), .inl (g.2.1, 4, .inl (da 7))), ((dd 8), .inl (g.2.1, 4, .inl (da 8))), ((dd 9), .inl (g.2.1, 4, .inl (da 9))), ((dd 10), .inl (g.2.1, 4, .inl (da 10))), ((dd 11), .inl (g.2.1, 4, .inl (da 11))), ((dd 12), .inl (g.2.1, 4, .inl (da 12))), ((dd 13), .inl (g.2.1, 4, .inl (da 13))), ((dd 14), .inl (g.2.1, 200, .inl (da 14))), ((dd 15), .inl (g.2.1, 3, .inl (da 15))), ((dd 16), .inl (g.2.1, 72, .inl (da 16))), ((dd 17), .inl (g.2.1, 64, .inl (da 17))), (ou, .inl (g.2.2.2.1, 1, .inr (.inl fo)))]
abbrev lwL (ad : Nat → Nat) (b mo ou t : Nat) : List (Nat × Value) := [(4, .int (nI (6 * t))), (3, .ref ou), (2, .ref mo), (1, .ref (ad 0)), (0, .ref b)]
/-- from pc the law comes to its end, whatever the state is -/
def lwG (p : Program) (l : Launch) (e : Env) (s : State) (m : MethodId) (below : List Frame) (meth : Method) (c : Code) (Q : State → Prop) (g : gG) (A : Nat → Prop) (b : Nat) (ad ed dd : Nat → Nat) (mo ou t pc N cb sb : Nat) : Prop := ∀ (mi : Nat → Int32) (lo su : Int64) (dr hd : Nat → Int32) (ig tr : Nat → Nat → Int32) (tw : Nat → Nat → Nat → Int32) (en : Nat → Int32) (vf : Nat → Nat → Int32) (rw th : Nat → Int32) (da : Nat → Nat → Int32) (di : Nat → Int32) (sm : Int64) (fo : Nat → Int64), Sim N mi lo dr hd ig tr tw en vf rw da di sm → gW p l e room_1 s m #[Value.ref b] below meth c Q 9 g A (lwS g ad ed dd mo ou mi lo su dr hd ig tr tw en vf rw th da di sm fo) (lwL ad b mo ou t) [] pc cb sb
section LWR
variable {p : Program} {l : Launch} {e : Env} {R : Room} {s : State} {m : MethodId} {args : Array Value} {below : List Frame} {meth : Method} {c : Code} {Q : State → Prop} {own : String} {cc : ByteArray} {nL : Nat} {g : gG} {A : Nat → Prop} {ws : va_W} {lv : List (Nat × Value)} {st : List Value} {pc cells slots : Nat}
theorem g_sld (B : gB p l s m args meth c own cc nL g A) {b L : Nat} {xs : Nat → Int32} (X : va_X b L xs s s.heap) (hbs : b < s.heap.size) (hbA : ¬ A b) {i : Int32} (k : Nat) (hk : i.toNatClampNeg = k) (hin : vp_in i L) (d : decode cc pc = .ok (.iaload, 1)) (kk : gW p l e R s m args below meth c Q nL g A ws lv (.int (xs k) :: st) (pc + 1) cells slots) : gW p l e R s m args below meth c Q nL g A ws lv (.int i :: .ref b :: st) pc cells slots := fun H locs ls hP hD hS hl => va_sld B.x B.b X hbs hbA hS hin d (by rw [hk]; exact kk H locs ls hP hD hS hl)
theorem g_slen (B : gB p l s m args meth c own cc nL g A) {b L : Nat} {xs : Nat → Int32} (X : va_X b L xs s s.heap) (hbs : b < s.heap.size) (hbA : ¬ A b) (d : decode cc pc = .ok (.arraylength, 1)) (kk : gW p l e R s m args below meth c Q nL g A ws lv (.int (nI L) :: st) (pc + 1) cells slots) : gW p l e R s m args below meth c Q nL g A ws lv (.ref b :: st) pc cells slots := fun H locs ls hP hD hS hl => va_slen B.x B.b X hbs hbA hS d (kk H locs ls hP hD hS hl)
end LWR
theorem lw_c0 (x : Int64) : lg_cmp x x = 0 := by
  unfold lg_cmp
  rw [if_neg (by rw [gt_iff_lt, Int64.lt_iff_toInt_lt]; omega), if_pos rfl]
theorem lw_same {fo : Nat → Int64} {x y r : Int32} (h : x = y) (hr : r = y) : lg_cmp ((vp_updL fo 0 (Int32.toInt64 x)) 0) (Int32.toInt64 r) = 0 := by
  subst h
  subst hr
  exact lw_c0 _
theorem lw_pl0 {fo : Nat → Int64} {x y r : Int32} (h : x = y) (hr : r = y) (c : r = 0) : lg_cmp ((vp_updL fo 0 (w_pl x)) 0) 0 = 0 := by
  subst h
  subst hr
  subst c
  exact lw_c0 _
theorem lw_pl1 {fo : Nat → Int64} {x y r : Int32} (h : x = y) (hr : r = y) (c : ¬ r = 0) : lg_cmp ((vp_updL fo 0 (w_pl x)) 0) 1 = 0 := by
  subst h
  subst hr
  show lg_cmp (w_pl r) 1 = 0
  unfold w_pl
  rw [if_neg c]
  exact lw_c0 _
