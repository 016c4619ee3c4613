/-! PURE PICTURES AND FUNCTIONS: what the code computes, in its own words; no program here -/
set_option maxRecDepth 100000
-- cells
abbrev cV (f : Nat → Int32) : va_E := .inr (4, [.int (f 0), .int (f 1), .int (f 2), .int (f 3), .int (f 4), .int (f 5), .int (f 6), .int (f 7), .int (f 8), .int (f 9), .int (f 10)])
abbrev cI (f : Nat → Int32) : va_E := .inr (2, [.int (f 0), .int (f 1), .int (f 2), .int (f 3), .int (f 4), .int (f 5), .int (f 6), .int (f 7), .int (f 8), .int (f 9), .int (f 10), .int (f 11)])
abbrev cT (p fo ga : Nat) (i : Nat → Int32) : va_E := .inr (3, [.int (i 0), .ref p, .ref fo, .ref ga])
abbrev cE (vs row out : Nat) (en : Nat → Int32) : va_E := .inr (1, [.ref vs, .ref row, .int (en 0), .int (en 1), .int (en 2), .int (en 3), .int (en 4), .int (en 5), .int (en 6), .int (en 7), .int (en 8), .ref out])
abbrev cM (ad : Nat → Nat) (e0 : Nat) (mi : Nat → Int32) (lo su : Int64) : va_E := .inr (0, [.ref (ad 1), .ref (ad 2), .ref (ad 8), .int (mi 0), .int (mi 1), .int (mi 2), .int (mi 3), .int (mi 4), .int (mi 5), .ref e0, .ref (ad 22), .int (mi 6), .int (mi 7), .long lo, .int (mi 8), .int (mi 9), .long su])
abbrev cA (arr : Nat) (i : Nat → Int32) : va_E := .inr (7, [.int (i 0), .ref arr, .int (i 1)])
abbrev cO (w : Nat) (th : Nat → Int32) : va_E := .inr (5, [.int (th 0), .ref w])
abbrev cD (dd : Nat → Nat) (di : Nat → Int32) (sm : Int64) : va_E := .inr (6, [.ref (dd 1), .ref (dd 2), .ref (dd 3), .ref (dd 4), .ref (dd 5), .ref (dd 6), .ref (dd 7), .ref (dd 8), .ref (dd 9), .ref (dd 10), .ref (dd 11), .ref (dd 12), .ref (dd 13), .int (di 0), .int (di 1), .int (di 2), .int (di 3), .int (di 4), .int (di 5), .ref (dd 14), .ref (dd 15), .ref (dd 16), .int (di 6), .int (di 7), .int (di 8), .int (di 9), .int (di 10), .int (di 11), .int (di 12), .ref (dd 17), .int (di 13), .int (di 14), .int (di 15), .int (di 16), .long sm])
-- arithmetic
abbrev prm (x y : Int32) : Int32 := x - x / y * y
abbrev pmx (x y : Int32) : Int32 := if x < y then y else x
abbrev pmn (x y : Int32) : Int32 := if y < x then y else x
abbrev pab (x : Int32) : Int32 := if 0 ≤ x then x else 0 - x
def pkp (x k : Int32) : Int32 := pmx (-k) (pmn k x)
def pfm (x y : Int32) : Int32 := if 0 ≤ x ^^^ y then prm x y else if prm x y = 0 then prm x y else prm x y + y
theorem vpc {i : Int32} {n : Nat} (h : (decide (i < 0) || decide (n ≤ i.toNatClampNeg)) = false) : vp_in i n := by
  rw [Bool.or_eq_false_iff] at h
  rintro (h1 | h1)
  · exact absurd (decide_eq_true h1) (by rw [h.1]; decide)
  · exact absurd (decide_eq_true h1) (by rw [h.2]; decide)
theorem ine {x y : Int32} (h : ¬ x = y) : x.toInt ≠ y.toInt := fun e => h (Int32.toInt_inj.mp e)
theorem zb_n {x : Int32} (h : x = 0 ∨ x = 1) : narrow .boolean (.int x) = .int x := by rcases h with rfl | rfl <;> decide
theorem zb_f {x : Int32} (h : x = 0 ∨ x = 1) : fits .boolean (.int x) = true := by rcases h with rfl | rfl <;> decide
-- waves and strides
def pval (dr : Nat → Int32) (w k : Int32) : Int32 := if w = 0 then -992 + 64 * k else if w = 1 then (if 16 ≤ k then -1000 else 1000) else if w = 2 then (if 16 ≤ k then 1000 - 125 * (k - 16) else -1000 + 125 * k) else dr k.toNatClampNeg
def pwav (dr : Nat → Int32) (w ph : Int32) : Int32 := pval dr w (ph / 2048) + (pval dr w (prm (ph / 2048 + 1) 32) - pval dr w (ph / 2048)) * prm ph 2048 / 2048
def ptab : Nat → Int32 := upd (upd (upd (upd (upd (upd (upd (upd (upd (upd (upd (upd (fun _ => 0) 0 256) 1 271) 2 287) 3 304) 4 323) 5 342) 6 362) 7 384) 8 406) 9 431) 10 456) 11 483
def pstr (p : Int32) : Int32 := ptab (prm p 12).toNatClampNeg <<< (p / 12 &&& 31)
-- a voice: f k, its fields in order (state level instrument pitch force began first second low band gate); g its instrument's fields
def v_free (f : Nat → Int32) : Int32 := if f 0 = 0 then 1 else 0
def v_end (f : Nat → Int32) : Nat → Int32 := if f 0 = 0 then f else upd f 0 4
def v_begin (f : Nat → Int32) (i p fo ga b : Int32) : Nat → Int32 := upd (upd (upd (upd (upd (upd (upd (upd (upd (upd f 0 1) 2 i) 3 p) 4 fo) 10 ga) 5 b) 6 0) 7 0) 8 0) 9 0
def v_g1 (f : Nat → Int32) (l top st : Int32) : Nat → Int32 := if l = top then upd (upd f 1 l) 0 st else upd f 1 l
def v_grow (g f : Nat → Int32) : Nat → Int32 :=
  if f 0 = 1 then v_g1 f (pmn 1000000 (f 1 + 1000000 / g 4)) 1000000 2
  else if f 0 = 2 then v_g1 f (pmx (1000 * g 6) (f 1 - (1000000 - 1000 * g 6) / g 5 - 1)) (1000 * g 6) 3
  else if f 0 = 3 then upd f 1 (1000 * g 6)
  else v_g1 f (pmx 0 (f 1 - 1000000 / g 7)) 0 0
def v_low (g f : Nat → Int32) : Int32 := pkp (f 8 + g 8 * f 9 / 256) 4000
def v_band (g f : Nat → Int32) (o : Int32) : Int32 := pkp (f 9 + g 8 * (o - v_low g f - g 9 * f 9 / 256) / 256) 4000
def v_filt (g f : Nat → Int32) (o : Int32) : Nat → Int32 := upd (upd f 8 (v_low g f)) 9 (v_band g f o)
def v_out (g f : Nat → Int32) : Int32 := v_low g f * f 4 / 127 * (f 1 / 1000) / 1000
