/-! PURE: the loudness is a number -/
set_option maxRecDepth 100000
theorem fp_tails : FP.Core.Fmt.tails FP.Core.b64 = 4503599627370496 := by decide
theorem fp_exps : FP.Core.Fmt.exps FP.Core.b64 = 2048 := by decide
theorem fp_qmin : FP.Core.Fmt.qmin FP.Core.b64 = -1074 := by decide
theorem fp_qmax : FP.Core.Fmt.qmax FP.Core.b64 = 971 := by decide
theorem fp_p : (2 : Nat) ^ FP.Core.Fmt.p FP.Core.b64 = 9007199254740992 := by decide
def fp_ok (d : FP.Core.Datum) : Prop := (∃ s, d = .inf s) ∨ ∃ s c q, d = .fin s c q ∧ c < 9007199254740992 ∧ q ≤ 971
theorem fp_bound (s : Bool) (c : Nat) (q : Int) (hc : c < 9007199254740992) : fp_ok (FP.Core.bound FP.Core.b64 s c q) := by
  unfold FP.Core.bound
  rw [fp_qmax]
  split
  · next h => exact Or.inr ⟨s, c, q, rfl, hc, h⟩
  · exact Or.inl ⟨s, rfl⟩
theorem fp_settle (s : Bool) (c : Nat) (q : Int) : fp_ok (FP.Core.settle FP.Core.b64 s c q) := by
  unfold FP.Core.settle
  rw [fp_p, fp_tails]
  split
  · next h => exact fp_bound s c q h
  · exact fp_bound s _ _ (by decide)
theorem fp_ratio (s : Bool) (n d : Nat) (e : Int) : fp_ok (FP.Core.roundRatio FP.Core.b64 s n d e) := by
  unfold FP.Core.roundRatio
  split
  · exact Or.inr ⟨s, 0, _, rfl, by decide, by rw [fp_qmin]; decide⟩
  · exact fp_settle _ _ _
theorem fp_asm (s : Bool) (e t : Nat) : FP.Core.assemble FP.Core.b64 s e t = (s.toNat * 2048 + e) * 4503599627370496 + t := by
  unfold FP.Core.assemble
  rw [fp_tails, fp_exps]
theorem fp_enc {d : FP.Core.Datum} (h : fp_ok d) : FP.Core.encode FP.Core.b64 d % 9223372036854775808 ≤ 9218868437227405312 ∧ FP.Core.encode FP.Core.b64 d < 18446744073709551616 := by
  have hs : ∀ s : Bool, s.toNat ≤ 1 := fun s => by cases s <;> decide
  rcases h with ⟨s, rfl⟩ | ⟨s, c, q, rfl, hc, hq⟩
  · have := hs s
    show FP.Core.assemble FP.Core.b64 s (FP.Core.Fmt.exps FP.Core.b64 - 1) 0 % _ ≤ _ ∧ FP.Core.assemble FP.Core.b64 s (FP.Core.Fmt.exps FP.Core.b64 - 1) 0 < _
    rw [fp_asm, fp_exps]
    omega
  · have := hs s
    unfold FP.Core.encode
    rw [fp_tails, fp_qmin]
    dsimp only
    split
    · rw [fp_asm]
      omega
    · rw [fp_asm]
      omega
theorem fp_dec {n : Nat} (h : n % 9223372036854775808 ≤ 9218868437227405312) : FP.Core.decode FP.Core.b64 n ≠ .nan := by
  unfold FP.Core.decode FP.Core.fieldE FP.Core.fieldT
  rw [fp_tails, fp_exps]
  split
  · next h1 =>
    split
    · intro q; cases q
    · next h2 => exfalso; omega
  · split
    · intro q; cases q
    · intro q; cases q
theorem fp_u {n : Nat} (h : n < 18446744073709551616) : (UInt64.ofNat n).toNat = n := UInt64.toNat_ofNat_of_lt' h
theorem fp_l2d (x : Int64) : FP.Core.decode FP.Core.b64 (FP.l2d x).toNat ≠ .nan := by
  have h : fp_ok (FP.Core.round FP.Core.b64 (FP.Core.ofInt x.toInt)) := fp_ratio _ _ _ _
  show FP.Core.decode FP.Core.b64 (UInt64.ofNat (FP.Core.encode FP.Core.b64 (FP.Core.round FP.Core.b64 (FP.Core.ofInt x.toInt)))).toNat ≠ .nan
  rw [fp_u (fp_enc h).2]
  exact fp_dec (fp_enc h).1
/-- an int that isn't 0, as a double: finite, and not 0 -/
theorem fp_i2d {n : Int32} (hn : ¬ n = 0) : ∃ s c q, FP.Core.decode FP.Core.b64 (FP.i2d n).toNat = .fin s c q ∧ c ≠ 0 := by
  have hc0 : n.toInt.natAbs ≠ 0 := fun e => hn (Int32.toInt_inj.mp (by rw [show (0 : Int32).toInt = 0 by decide]; omega))
  have hc1 : n.toInt.natAbs < 2 ^ 32 := by
    have := Int32.toInt_lt n
    have := Int32.le_toInt n
    omega
  have hr : ∃ c q, FP.Core.round FP.Core.b64 (FP.Core.ofInt n.toInt) = .fin (decide (n.toInt < 0)) c q ∧ c ≠ 0 ∧ c < 9007199254740992 ∧ q ≤ 971 := by
    show ∃ c q, FP.Core.roundRatio FP.Core.b64 (decide (n.toInt < 0)) n.toInt.natAbs 1 0 = _ ∧ _
    generalize decide (n.toInt < 0) = s
    generalize n.toInt.natAbs = k at hc0 hc1
    unfold FP.Core.roundRatio
    rw [if_neg hc0]
    unfold FP.Core.roundAt
    have hl : FP.Core.leading k 1 ≤ 31 := by
      have h1 : k.log2 < 32 := (Nat.log2_lt hc0).mpr hc1
      have h2 : (1 : Nat).log2 = 0 := by decide
      unfold FP.Core.leading
      dsimp only
      rw [h2]
      split <;> omega
    have hq : FP.Core.quantum FP.Core.b64 k 1 0 ≤ -21 := by
      unfold FP.Core.quantum
      rw [fp_qmin, show ((FP.Core.Fmt.p FP.Core.b64 : Nat) : Int) = 53 by decide]
      omega
    generalize FP.Core.quantum FP.Core.b64 k 1 0 = q at hq
    have hd : FP.Core.unitsDen 1 0 q = 1 := by
      unfold FP.Core.unitsDen
      rw [show (q - 0).toNat = 0 by omega]
    have hne : FP.Core.nearest (FP.Core.unitsNum k 0 q) (FP.Core.unitsDen 1 0 q) ≠ 0 := by
      rw [hd]
      unfold FP.Core.nearest
      rw [Nat.mod_one, if_pos (by decide), Nat.div_one]
      unfold FP.Core.unitsNum
      exact Nat.mul_ne_zero hc0 (Nat.ne_of_gt (Nat.two_pow_pos _))
    generalize FP.Core.nearest (FP.Core.unitsNum k 0 q) (FP.Core.unitsDen 1 0 q) = z at hne
    unfold FP.Core.settle FP.Core.bound
    rw [fp_p, fp_tails, fp_qmax]
    split
    · next h => rw [if_pos (by omega)]; exact ⟨z, q, rfl, hne, h, by omega⟩
    · rw [if_pos (by omega)]; exact ⟨_, _, rfl, by decide, by decide, by omega⟩
  obtain ⟨c, q, e, h0, h1, h2⟩ := hr
  have hok : fp_ok (FP.Core.round FP.Core.b64 (FP.Core.ofInt n.toInt)) := Or.inr ⟨_, c, q, e, h1, h2⟩
  show ∃ s c q, FP.Core.decode FP.Core.b64 (UInt64.ofNat (FP.Core.encode FP.Core.b64 (FP.Core.round FP.Core.b64 (FP.Core.ofInt n.toInt)))).toNat = .fin s c q ∧ c ≠ 0
  rw [fp_u (fp_enc hok).2, e]
  have hs : (decide (n.toInt < 0)).toNat ≤ 1 := by cases decide (n.toInt < 0) <;> decide
  have hm : 0 < FP.Core.encode FP.Core.b64 (.fin (decide (n.toInt < 0)) c q) % 9223372036854775808 ∧ FP.Core.encode FP.Core.b64 (.fin (decide (n.toInt < 0)) c q) % 9223372036854775808 < 9218868437227405312 := by
    unfold FP.Core.encode
    rw [fp_tails, fp_qmin]
    dsimp only
    split
    · rw [fp_asm]
      omega
    · rw [fp_asm]
      omega
  generalize FP.Core.encode FP.Core.b64 (.fin (decide (n.toInt < 0)) c q) = w at hm
  unfold FP.Core.decode FP.Core.fieldE FP.Core.fieldT
  rw [fp_tails, fp_exps]
  rw [if_neg (by omega)]
  split
  · exact ⟨_, _, _, rfl, by omega⟩
  · exact ⟨_, _, _, rfl, by omega⟩
theorem fp_quo {a b : FP.Core.Datum} (ha : a ≠ .nan) (hb : ∃ s c q, b = .fin s c q ∧ c ≠ 0) : fp_ok (FP.Core.quotient FP.Core.b64 a b) := by
  obtain ⟨t, d, r, rfl, hd⟩ := hb
  cases a with
  | nan => exact absurd rfl ha
  | inf s => exact Or.inl ⟨_, rfl⟩
  | fin s c q =>
    show fp_ok (if d = 0 then (if c = 0 then FP.Core.Datum.nan else .inf (s != t)) else FP.Core.roundRatio FP.Core.b64 (s != t) c d (q - r))
    rw [if_neg hd]
    exact fp_ratio _ _ _ _
theorem fp_and (x : UInt64) : x &&& 0x7fffffffffffffff ≤ 0x7ff0000000000000 ↔ x.toNat % 9223372036854775808 ≤ 9218868437227405312 := by
  rw [UInt64.le_iff_toNat_le, UInt64.toNat_and]
  rw [show (0x7fffffffffffffff : UInt64).toNat = 2 ^ 63 - 1 by decide, Nat.and_two_pow_sub_one_eq_mod]
  exact Iff.rfl
theorem fp_div {n : Int32} (hn : ¬ n = 0) (x : Int64) : (FP.ddiv (FP.l2d x) (FP.i2d n)).toNat % 9223372036854775808 ≤ 9218868437227405312 := by
  have h := fp_quo (fp_l2d x) (fp_i2d hn)
  show (UInt64.ofNat (FP.Core.encode FP.Core.b64 (FP.Core.quotient FP.Core.b64 (FP.Core.decode FP.Core.b64 (FP.l2d x).toNat) (FP.Core.decode FP.Core.b64 (FP.i2d n).toNat)))).toNat % _ ≤ _
  rw [fp_u (fp_enc h).2]
  exact (fp_enc h).1
theorem vf_q {n : Int32} (hn : ¬ n = 0) (x : Int64) : vf_n64 (FP.ddiv (FP.l2d x) (FP.i2d n)) := (fp_and _).mpr (fp_div hn x)
theorem fp_self {x : UInt64} (h : x.toNat % 9223372036854775808 ≤ 9218868437227405312) : FP.dcmp x x = some .eq := by
  have hn := fp_dec h
  show FP.Core.order (FP.Core.decode FP.Core.b64 x.toNat) (FP.Core.decode FP.Core.b64 x.toNat) = some .eq
  have hc : ∀ i : Int, compare i i = .eq := fun i => by simp
  cases hd : FP.Core.decode FP.Core.b64 x.toNat with
  | nan => exact absurd hd hn
  | inf s => exact congrArg some (hc _)
  | fin s c q => exact congrArg some (hc _)
theorem p_loud_eq (mi : Nat → Int32) (lo : Int64) : FP.dcmp (p_loud mi lo) (p_loud mi lo) = some .eq := by
  unfold p_loud
  split
  · exact fp_self (by decide)
  · next h => exact fp_self (fp_div h lo)
