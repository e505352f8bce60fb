/-! BEST USE (plain) -/
set_option maxRecDepth 100000
/-- one more part of length ln, that takes tk: from the place r down -/
def buR (ln tk : Int) : Nat → Int → (Int → Int) → (Int → Int)
  | 0, _, s => s
  | k + 1, r, s => if r < tk then s else buR ln tk k (r - 1) (zup s r (max (s r) (s (r - tk) + ln)))
def mBuP (M : mS) (b g room p : Int) (s : Int → Int) : Int → Int := if M.2 0 (3 * b + 1) < M.2 2 (4 * p + 1) ∨ M.2 2 (4 * p + 2) < g then s else lp (fun _ s => buR (M.2 2 (4 * p + 0)) (M.2 2 (4 * p + 0) + M.1 4) 20001 room s) 0 (M.2 2 (4 * p + 3)) s
def mBestUse (M : mS) (b g ln : Int) : Int × mS :=
  if 0 ≤ b ∧ b ≤ M.1 1 - 1 then
    (if (0 ≤ g ∧ g ≤ 3) ∧ 0 ≤ ln ∧ ln ≤ 3000 then (lp (mBuP M b g (ln + M.1 4)) 0 (M.1 3) (fun _ => 0) (ln + M.1 4), M) else (0, mset M 0 2))
  else (0, mset M 0 1)
theorem tl_nq {σ : tl_H} {q b : Nat} {e : va_E} (hq : σ q = none) (h : σ b = some e) : b ≠ q := by
  intro z
  rw [z, hq] at h
  cases h
