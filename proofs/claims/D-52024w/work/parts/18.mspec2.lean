/-! WHAT THE MODEL'S PUBLIC METHODS ANSWER AND LEAVE (plain). M: the state with thrown put to 0 -/
set_option maxRecDepth 100000
def mAddBoard (M : mS) (ln w g : Int) : Int × mS :=
  if 100 ≤ ln ∧ ln ≤ 3000 ∧ 10 ≤ w ∧ w ≤ 400 ∧ 0 ≤ g ∧ g ≤ 3 then
    (if M.1 1 = 10 then (0, mset M 0 2)
     else (M.1 1 + 1 - 1, mset (aset (aset (aset M 0 (3 * M.1 1) ln) 0 (3 * M.1 1 + 1) w) 0 (3 * M.1 1 + 2) g) 1 (M.1 1 + 1)))
  else (0, mset M 0 1)
def mRefF (M : mS) (b fr t g q a : Int) : Int := if a ≠ 0 ∨ (M.2 4 (4 * q) = b ∧ M.2 4 (4 * q + 1) < t ∧ fr < M.2 4 (4 * q + 2) ∧ M.2 2 (4 * M.2 4 (4 * q + 3) + 2) < g) then 1 else 0
def mRefused (M : mS) (b fr t g : Int) : Int := lp (mRefF M b fr t g) 0 (M.1 6) (if M.1 2 = 24 then 1 else 0)
def mAddDefect (M : mS) (b fr t g : Int) : Int × mS :=
  if 0 ≤ b ∧ b ≤ M.1 1 - 1 then
    (if 0 ≤ fr ∧ fr < t ∧ t ≤ M.2 0 (3 * b) ∧ 1 ≤ g ∧ g ≤ 3 then
      (if mRefused M b fr t g = 0 then (M.1 2 + 1, mset (aset (aset (aset (aset M 1 (4 * M.1 2) b) 1 (4 * M.1 2 + 1) fr) 1 (4 * M.1 2 + 2) t) 1 (4 * M.1 2 + 3) g) 2 (M.1 2 + 1))
       else (0, mset M 0 3))
     else (0, mset M 0 2))
  else (0, mset M 0 1)
def mAddPart (M : mS) (ln w g cn j : Int) : Int × mS :=
  if 20 ≤ ln ∧ ln ≤ 3000 ∧ 10 ≤ w ∧ w ≤ 400 ∧ 0 ≤ g ∧ g ≤ 3 ∧ 1 ≤ cn ∧ cn ≤ 9 then
    (if M.1 3 = 12 then (0, mset M 0 2)
     else (M.1 3 + 1 - 1, mset (aset (aset (aset (aset (aset M 2 (4 * M.1 3) ln) 2 (4 * M.1 3 + 1) w) 2 (4 * M.1 3 + 2) g) 2 (4 * M.1 3 + 3) cn) 3 (M.1 3) j) 3 (M.1 3 + 1)))
  else (0, mset M 0 1)
def mSetSaw (M : mS) (w : Int) : Int × mS := if 0 ≤ w ∧ w ≤ 10 then (if 0 < M.1 6 then (0, mset M 0 2) else (M.1 4, mset M 4 w)) else (0, mset M 0 1)
def mSetJoint (M : mS) (w : Int) : Int × mS := if 0 ≤ w ∧ w ≤ 50 then (M.1 5, mset M 5 w) else (0, mset M 0 1)
def mGrade (M : mS) (b pl : Int) : Int × mS := if (0 ≤ b ∧ b ≤ M.1 1 - 1) ∧ 0 ≤ pl ∧ pl ≤ M.2 0 (3 * b) - 1 then (mGradeAt M b pl, M) else (0, mset M 0 1)
def mEarl (M : mS) (p b : Int) : Int × mS := if (0 ≤ p ∧ p ≤ M.1 3 - 1) ∧ 0 ≤ b ∧ b ≤ M.1 1 - 1 then (mEarliest M p b, M) else (0, mset M 0 1)
def mLeft (M : mS) (p : Int) : Int × mS := if 0 ≤ p ∧ p ≤ M.1 3 - 1 then (M.2 2 (4 * p + 3), M) else (0, mset M 0 1)
def mPiecesOn (M : mS) (b : Int) : Int × mS := if 0 ≤ b ∧ b ≤ M.1 1 - 1 then (mPieces M b, M) else (0, mset M 0 1)
def mFits (M : mS) (p b pl : Int) : Int × mS :=
  if (0 ≤ p ∧ p ≤ M.1 3 - 1) ∧ 0 ≤ b ∧ b ≤ M.1 1 - 1 then
    (if (0 ≤ pl ∧ pl ≤ 3000) ∧ pl < 3000 ∧ mOnward M p (M.2 2 (4 * p + 0)) b pl = pl then (1, M) else (0, M))
  else (0, mset M 0 1)
def mCut (M : mS) (p b pl : Int) : Int × mS :=
  if (0 ≤ p ∧ p ≤ M.1 3 - 1) ∧ 0 ≤ b ∧ b ≤ M.1 1 - 1 then
    (if M.2 2 (4 * p + 3) ≠ 0 ∧ (0 ≤ pl ∧ pl ≤ 3000) ∧ pl < 3000 ∧ mOnward M p (M.2 2 (4 * p + 0)) b pl = pl then (M.2 2 (4 * p + 3) - 1, mLess (mAdd M p b pl (M.2 2 (4 * p + 0)) 0) p)
     else (0, mset M 0 2))
  else (0, mset M 0 1)
def mJoin (M : mS) (p a pA ln b pB : Int) : Int × mS :=
  if (0 ≤ p ∧ p ≤ M.1 3 - 1) ∧ (0 ≤ a ∧ a ≤ M.1 1 - 1) ∧ 0 ≤ b ∧ b ≤ M.1 1 - 1 then
    (if 50 ≤ ln ∧ ln ≤ M.2 2 (4 * p + 0) + M.1 5 - 50 then
      (if M.2 2 (4 * p + 3) ≠ 0 ∧ M.2 3 p ≠ 0 ∧ (0 ≤ pA ∧ pA ≤ 3000) ∧ (0 ≤ pB ∧ pB ≤ 3000) ∧ pA < 3000 ∧ mOnward M p ln a pA = pA then
        (if pB < 3000 ∧ mOnward (mAdd M p a pA ln 1) p (M.2 2 (4 * p + 0) + M.1 5 - ln) b pB = pB then
          (M.2 2 (4 * p + 3) - 1, mLess (mAdd (mAdd M p a pA ln 1) p b pB (M.2 2 (4 * p + 0) + M.1 5 - ln) 1) p)
         else (0, mset (mset (mAdd M p a pA ln 1) 6 (M.1 6 + 1 - 1)) 0 3))
       else (0, mset M 0 3))
     else (0, mset M 0 2))
  else (0, mset M 0 1)
def mUndo (M : mS) : Int × mS :=
  if M.1 6 = 0 then (0, mset M 0 1)
  else (M.2 4 (4 * (M.1 6 - 1) + 3), aset (mset M 6 (M.1 6 - (if M.2 5 (M.1 6 - 1) = 0 then 1 else 2))) 2 (4 * M.2 4 (4 * (M.1 6 - 1) + 3) + 3) (M.2 2 (4 * M.2 4 (4 * (M.1 6 - 1) + 3) + 3) + 1))
theorem zup_b {g : Int → Int} {z v lo hi : Int} (h : ∀ j, lo ≤ g j ∧ g j ≤ hi) (hv : lo ≤ v ∧ v ≤ hi) : ∀ j, lo ≤ zup g z v j ∧ zup g z v j ≤ hi := by
  intro j
  unfold zup
  split
  · exact hv
  · exact h j
theorem mI.add {M : mS} (h : mI M) {p b pl ln j : Int} (hp : 0 ≤ p ∧ p < M.1 3) (hb : 0 ≤ b ∧ b ≤ 5000) (hpl : 0 ≤ pl ∧ pl ≤ 4000) (hln : -4000 ≤ ln ∧ ln ≤ 4000) (hj : j = 0 ∨ j = 1) (h6 : M.1 6 < 216) : mI (mAdd M p b pl ln j) := by
  obtain ⟨h1, h2, h3, h4, h5, h7⟩ := h
  refine ⟨?_, ?_, ?_, ?_, ?_, h7⟩
  · show 0 ≤ M.1 1 ∧ M.1 1 ≤ 10 ∧ 0 ≤ M.1 2 ∧ M.1 2 ≤ 24 ∧ 0 ≤ M.1 3 ∧ M.1 3 ≤ 12 ∧ 0 ≤ M.1 4 ∧ M.1 4 ≤ 10 ∧ 0 ≤ M.1 5 ∧ M.1 5 ≤ 50 ∧ 0 ≤ M.1 6 + 1 ∧ M.1 6 + 1 ≤ 216 ∧ -5000 ≤ M.1 0 ∧ M.1 0 ≤ 5000 ∧ -20000 ≤ M.1 7 ∧ M.1 7 ≤ 20000 ∧ -20000 ≤ M.1 8 ∧ M.1 8 ≤ 20000
    omega
  · intro k z
    by_cases hk4 : k = 4
    · subst hk4
      exact zup_b (zup_b (zup_b (zup_b (h2 4) (by omega)) (by omega)) (by omega)) (by omega) z
    · by_cases hk5 : k = 5
      · subst hk5
        exact zup_b (h2 5) (by omega) z
      · have e : (mAdd M p b pl ln j).2 k = M.2 k := by simp [mAdd, mset, aset, va_up, hk4, hk5]
        rw [e]
        exact h2 k z
  · intro q hq0 hq1
    have hq1 : q < M.1 6 + 1 := hq1
    show 0 ≤ zup (zup (zup (zup (M.2 4) (4 * M.1 6) b) (4 * M.1 6 + 1) pl) (4 * M.1 6 + 2) (pl + ln)) (4 * M.1 6 + 3) p (4 * q + 3) ∧ zup (zup (zup (zup (M.2 4) (4 * M.1 6) b) (4 * M.1 6 + 1) pl) (4 * M.1 6 + 2) (pl + ln)) (4 * M.1 6 + 3) p (4 * q + 3) < M.1 3
    by_cases hq : q = M.1 6
    · subst hq
      rw [zup_s]
      exact hp
    · rw [zup_n (by omega), zup_n (by omega), zup_n (by omega), zup_n (by omega)]
      exact h3 q hq0 (by omega)
  · exact h4
  · intro z
    show zup (M.2 5) (M.1 6) j z = 0 ∨ zup (M.2 5) (M.1 6) j z = 1
    unfold zup
    split
    · exact hj
    · exact h5 z
