/-! FURTHER ANSWERS OF THE MODEL: pieces in their order, cuts, rooms, best use, used, digest (plain) -/
set_option maxRecDepth 100000
theorem mPf_ok {M : mS} (h6 : 0 ≤ M.1 6) (b pl : Int) : mPieceFrom M b pl = -1 ∨ 0 ≤ mPieceFrom M b pl ∧ mPieceFrom M b pl < M.1 6 ∧ pl ≤ M.2 4 (4 * mPieceFrom M b pl + 1) ∧ M.2 4 (4 * mPieceFrom M b pl) = b := by
  refine lp_invB (fun z a => a = -1 ∨ 0 ≤ a ∧ a < z ∧ pl ≤ M.2 4 (4 * a + 1) ∧ M.2 4 (4 * a) = b) h6 ?_ (Or.inl rfl)
  intro z a h0 h1 ha
  unfold mPfF
  split
  · rename_i h
    exact Or.inr ⟨h0, by omega, h.2.1, h.1⟩
  · omega
/-- the k-th piece of a board, in the order of places; -1 -/
def mNth (M : mS) (b : Int) : Nat → Int
  | 0 => mPieceFrom M b 0
  | k + 1 => mPieceFrom M b (M.2 4 (4 * mNth M b k + 2))
def mPiece (M : mS) (b k w : Int) : Int × mS := if (0 ≤ b ∧ b ≤ M.1 1 - 1) ∧ (0 ≤ k ∧ k ≤ mPieces M b - 1) ∧ 0 ≤ w ∧ w ≤ 3 then (mTold M (mNth M b k.toNat) w, M) else (0, mset M 0 1)
def mCu (M : mS) (b : Int) : Nat → Int → Int → Int → Int
  | 0, many, _, _ => many
  | k + 1, many, bf, q => if q = -1 then many else
    mCu M b k (if M.2 4 (4 * q + 2) < M.2 0 (3 * b) then (if 0 < M.2 4 (4 * q + 1) ∧ (bf = -1 ∨ M.2 4 (4 * q + 1) - M.2 4 (4 * bf + 2) ≠ M.1 4) then many + 1 else many) + 1 else (if 0 < M.2 4 (4 * q + 1) ∧ (bf = -1 ∨ M.2 4 (4 * q + 1) - M.2 4 (4 * bf + 2) ≠ M.1 4) then many + 1 else many)) q (mPieceFrom M b (M.2 4 (4 * q + 2)))
def mCuts (M : mS) (b : Int) : Int × mS := if 0 ≤ b ∧ b ≤ M.1 1 - 1 then (mCu M b 20001 0 (-1) (mPieceFrom M b 0), M) else (0, mset M 0 1)
def mLr (M : mS) (b : Int) : Nat → Int → Int → Int → Int
  | 0, lg, _, _ => lg
  | k + 1, lg, fr, q => if q = -1 then max lg (M.2 0 (3 * b) - fr) else mLr M b k (max lg (M.2 4 (4 * q + 1) - M.1 4 - fr)) (M.2 4 (4 * q + 2) + M.1 4) (mPieceFrom M b (M.2 4 (4 * q + 2)))
def mLongest (M : mS) (b : Int) : Int × mS := if 0 ≤ b ∧ b ≤ M.1 1 - 1 then (mLr M b 20001 0 0 (mPieceFrom M b 0), M) else (0, mset M 0 1)
theorem mPieces_bd {M : mS} (h6 : 0 ≤ M.1 6) (b : Int) : 0 ≤ mPieces M b ∧ mPieces M b ≤ M.1 6 := by
  refine lp_invB (fun z a => 0 ≤ a ∧ a ≤ z) h6 ?_ ⟨Int.le_refl _, Int.le_refl _⟩
  intro z a h0 h1 ha
  unfold mPoF
  split <;> omega
/-- a number goes into the digest -/
def dg (d : Int64) (x : Int) : Int64 := d * 31 + (iI x).toInt64
def mDgQ (M : mS) (b : Int) : Nat → Int → Int64 → Int64
  | 0, _, d => d
  | k + 1, q, d => if q = -1 then d else mDgQ M b k (mPieceFrom M b (M.2 4 (4 * q + 2))) (lp (fun w d => dg d (mTold M q w)) 0 4 d)
def mDgB (M : mS) (b : Int) (d : Int64) : Int64 := mDgQ M b 20001 (mPieceFrom M b 0) (dg d (mPieces M b))
def mDigest (M : mS) : Int64 := lp (mDgB M) 0 (M.1 1) (dg (lp (fun p d => dg d (M.2 2 (4 * p + 3))) 0 (M.1 3) (dg (dg (dg (8339 + (iI (M.1 4)).toInt64) (M.1 5)) (M.1 2)) (M.1 3))) (M.1 1))
/-- wood in pieces, wood of the boards that are used -/
def mUsP (M : mS) (b q : Int) (a : Int64) : Int64 := if M.2 4 (4 * q) = b then a + (iI (M.2 4 (4 * q + 2) - M.2 4 (4 * q + 1))).toInt64 * (iI (M.2 2 (4 * M.2 4 (4 * q + 3) + 1))).toInt64 else a + 0
def mUsF (M : mS) (b : Int) (a : Int64 × Int64) : Int64 × Int64 := if mPieces M b = 0 then a else (lp (mUsP M b) 0 (M.1 6) a.1, a.2 + (iI (M.2 0 (3 * b))).toInt64 * (iI (M.2 0 (3 * b + 1))).toInt64)
def mUsAll (M : mS) : Int64 × Int64 := lp (mUsF M) 0 (M.1 1) (0, 0)
def mUsed (M : mS) : UInt64 := if (mUsAll M).2 = 0 then FP.dconst0 else FP.ddiv (FP.l2d (mUsAll M).1) (FP.l2d (mUsAll M).2)
/-- the state with which the model begins -/
def mStart : mS := (fun k => if k = 4 then 3 else if k = 5 then 10 else 0, fun _ _ => 0)
