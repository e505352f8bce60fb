/-! BOARDS: what the heap holds; plain functions -/
set_option maxRecDepth 100000
/-- a board: length, width, grade, the lists of its defects, its pieces -/
abbrev cB (ln wd gr : Int) (Ld Lp : Nat) : va_E := oO 1 [.int (iI ln), .int (iI wd), .int (iI gr), .ref Ld, .ref Lp]
/-- a list of defects -/
def DL (X : tl_X) (σ : tl_H) (L : Nat) (md n : Int) (da : Int → Nat) (arr cap : Nat) (dF dT dG : Int → Int) : Prop := AL X σ L md n da arr cap ∧ ∀ i : Int, 0 ≤ i → i < n → σ (da i) = some (cDe (dF i) (dT i) (dG i)) ∧ iS (dF i) ∧ iS (dT i) ∧ iS (dG i)
/-- a list of pieces -/
def PL (X : tl_X) (σ : tl_H) (L : Nat) (md n : Int) (pa : Int → Nat) (arr cap : Nat) (pF pT : Int → Int) (pP : Int → Nat) (pJ : Int → Int) : Prop := AL X σ L md n pa arr cap ∧ ∀ i : Int, 0 ≤ i → i < n → σ (pa i) = some (cPi (pF i) (pT i) (pP i) (pJ i)) ∧ iS (pF i) ∧ iS (pT i)
/-- the worst grade at a place, of the first defects -/
def gAt (gr : Int) (dF dT dG : Int → Int) (z : Int) : Nat → Int
  | 0 => gr
  | k + 1 => if dF k ≤ z ∧ z < dT k then max (gAt gr dF dT dG z k) (dG k) else gAt gr dF dT dG z k
/-- none of the first defects spoils a piece from f to t of a part of grade g -/
def noD (dF dT dG : Int → Int) (f t g : Int) : Nat → Bool
  | 0 => true
  | k + 1 => noD dF dT dG f t g k && !decide (g < dG k ∧ f < dT k ∧ dF k < t)
/-- none of the first pieces is near to one from f to t -/
def noP (pF pT : Int → Int) (f t sw : Int) : Nat → Bool
  | 0 => true
  | k + 1 => noP pF pT f t sw k && !decide (pF k < t + sw ∧ f < pT k + sw)
theorem noD_false {dF dT dG : Int → Int} {f t g : Int} {k n : Nat} (h : noD dF dT dG f t g k = false) (hk : k ≤ n) : noD dF dT dG f t g n = false := by
  induction n with
  | zero => rw [show k = 0 by omega] at h; exact h
  | succ n ih =>
    by_cases z : k = n + 1
    · rw [← z]; exact h
    · unfold noD
      rw [ih (by omega)]
      rfl
theorem noP_false {pF pT : Int → Int} {f t sw : Int} {k n : Nat} (h : noP pF pT f t sw k = false) (hk : k ≤ n) : noP pF pT f t sw n = false := by
  induction n with
  | zero => rw [show k = 0 by omega] at h; exact h
  | succ n ih =>
    by_cases z : k = n + 1
    · rw [← z]; exact h
    · unfold noP
      rw [ih (by omega)]
      rfl
