/-! the law's entry: what holds there, out of the Statement's words -/
set_option maxRecDepth 100000
theorem lw_gN {b : Addr} {s : State} (hts : ∀ w ∈ lw_tbl, w.before #[Value.ref b] s = true) (h5 : (Cond.not (.castable eIA eIO)).before #[Value.ref b] s = true) : gN s := by
  refine ⟨fun w hw hb => ?_, va_Nc.of h5⟩
  have h1 := hts w hw
  cases w with
  | fieldLinkNest => exact va_Nw.of rfl h1
  | methodLinkNest => exact va_Nw.of rfl h1
  | castable => exact va_Nw.of rfl h1
  | declares => exact va_Nw.of rfl h1
  | arrayOver ty => exact h1
  | _ => exact absurd hb (by simp [gNb])
set_option maxHeartbeats 4000000 in
theorem lw_gB {p : Program} {l : Launch} {s : State} {m : MethodId} {meth : Method} {c : Code} {b : Addr} (hx : p.tables.exec = Jvm.exec) (hb : c.code = cL_law) (hml : c.maxLocals = 9) (hown : s.vm.findClass RX0 = some m.cls) (hts : ∀ w ∈ lw_tbl, w.before #[Value.ref b] s = true) (hlk : meth.locks = false)
    (h1 : (Cond.isRef (.static Bundle.tN "UNASSIGNED_STACK" Bundle.steD)).before #[Value.ref b] s = true) (h2 : (Cond.isRef (.static Bundle.tN "SUPPRESSED_SENTINEL" Bundle.listD)).before #[Value.ref b] s = true)
    (h3 : (Cond.arrayOf (.static "java/util/ArrayList" "DEFAULTCAPACITY_EMPTY_ELEMENTDATA" "[Ljava/lang/Object;") (.object "java/lang/Object")).before #[Value.ref b] s = true) (h4 : (Cond.eq (.length (.static "java/util/ArrayList" "DEFAULTCAPACITY_EMPTY_ELEMENTDATA" "[Ljava/lang/Object;")) (.int 0)).before #[Value.ref b] s = true)
    (h5 : (Cond.not (.castable eIA eIO)).before #[Value.ref b] s = true) (hst : l.stackTraces = false) : ∃ g : gG, gB p l s m #[Value.ref b] meth c RX0 cL_law 9 g (fun q => s.heap.size ≤ q) := by
  have hA : ∀ a : Nat, a < s.heap.size → ¬ (fun q : Nat => s.heap.size ≤ q) a := fun a h => Nat.not_le.mpr h
  obtain ⟨c1, i1, K1⟩ := u_known (C := RX1) (T := TX1) (N := 17) (n := 17) hts (fun w h => lw_all_tbl (in_X1 w h)) (hts _ (lw_all_tbl q50))
  obtain ⟨c2, i2, K2⟩ := u_known (C := RX2) (T := TX2) (N := 12) (n := 12) hts (fun w h => lw_all_tbl (in_X2 w h)) (hts _ (lw_all_tbl q85))
  obtain ⟨c3, i3, K3⟩ := u_known (C := RX3) (T := TX3) (N := 12) (n := 12) hts (fun w h => lw_all_tbl (in_X3 w h)) (hts _ (lw_all_tbl q139))
  obtain ⟨c4, i4, K4⟩ := u_known (C := RX4) (T := TX4) (N := 4) (n := 4) hts (fun w h => lw_all_tbl (in_X4 w h)) (hts _ (lw_all_tbl q259))
  obtain ⟨c5, i5, K5⟩ := u_known (C := RX5) (T := TX5) (N := 11) (n := 11) hts (fun w h => lw_all_tbl (in_X5 w h)) (hts _ (lw_all_tbl q285))
  obtain ⟨c6, i6, K6⟩ := u_known (C := RX6) (T := TX6) (N := 2) (n := 2) hts (fun w h => lw_all_tbl (in_X6 w h)) (hts _ (lw_all_tbl q899))
  obtain ⟨c7, i7, K7⟩ := u_known (C := RX7) (T := TX7) (N := 35) (n := 35) hts (fun w h => lw_all_tbl (in_X7 w h)) (hts _ (lw_all_tbl q905))
  obtain ⟨c8, i8, K8⟩ := u_known (C := RJ2) (T := TJ2) (N := 3) (n := 3) hts (fun w h => lw_all_tbl (in_J2 w h)) (hts _ (lw_all_tbl q58))
  obtain ⟨cI, kI, compI, fI, hkI, hkindI⟩ := Cond.arrayClass_spec (hts _ (lw_all_tbl q83))
  obtain ⟨cL, kL, compL, fL, hkL, hkindL⟩ := Cond.arrayClass_spec (hts _ (lw_all_tbl q1321))
  obtain ⟨compO, cO, kO, hcO, -, hkO, hkindO, hnO⟩ := Cond.arrayOver_spec (hts _ q248)
  obtain ⟨t, ht, hT⟩ := va_Tof (N := 0) (f := fun _ => .null) (A := fun q : Nat => s.heap.size ≤ q) (by decide) h3 (va_eqt h4) (fun j hj => absurd hj (Nat.not_lt_zero j)) hA
  refine ⟨((fun k => if k = 0 then c1 else if k = 1 then c2 else if k = 2 then c3 else if k = 3 then c4 else if k = 4 then c5 else if k = 5 then c6 else if k = 6 then c7 else c8, fun k => if k = 0 then i1 else if k = 1 then i2 else if k = 2 then i3 else if k = 3 then i4 else if k = 4 then i5 else if k = 5 then i6 else if k = 6 then i7 else i8), cI, cO, cL, t), ⟨hx, hb, hml, hown, fun w hw => hts w (lw_all_tbl hw)⟩, ⟨?_, ?_⟩, fun q h => h, hlk, lw_gN hts h5, ⟨vx_Zqof (hts _ q613) (hts _ (lw_all_tbl q40)) h1 hA, vx_Zqof (hts _ q615) (hts _ (lw_all_tbl q40)) h2 hA, va_Zref (hts _ q70) (hts _ (lw_all_tbl q29)) ht hA, hT⟩, hst⟩
  · intro k q hq
    match k, hq with
    | 0, hq => cases hq; exact K1
    | 1, hq => cases hq; exact K2
    | 2, hq => cases hq; exact K3
    | 3, hq => cases hq; exact K4
    | 4, hq => cases hq; exact K5
    | 5, hq => cases hq; exact K6
    | 6, hq => cases hq; exact K7
    | 7, hq => cases hq; exact K8
    | k + 8, hq => simp [vwCl] at hq
  · intro k q hk
    match k, hk with
    | 0, hk => cases hk; exact ⟨fun n z => ⟨fun k h => by cases h, kI, hkI, compI, hkindI⟩, fI⟩
    | 1, hk => cases hk; exact ⟨fun n z => ⟨fun k h => by cases h, kO, hkO, compO, hkindO⟩, kO, compO, hkO, hkindO, hcO, hnO⟩
    | 2, hk => cases hk; exact ⟨fun n z => ⟨fun k h => by cases h, kL, hkL, compL, hkindL⟩, fL⟩
    | k + 3, hk => simp [gT] at hk
