/-! THE MODEL'S STATE AND WHAT ITS METHODS COMPUTE (plain) -/
set_option maxRecDepth 100000
/-- numbers by place: 0 thrown, 1 boards, 2 defects, 3 parts, 4 saw, 5 joint, 6 made, 7 stretchFrom, 8 stretchTo; rows by place: 0 wood, 1 flaws, 2 wants, 3 mayBeJoined, 4 cuts, 5 areJoined -/
abbrev mS : Type := (Nat → Int) × (Nat → Int → Int)
def mset (M : mS) (k : Nat) (v : Int) : mS := (va_up M.1 k v, M.2)
def aset (M : mS) (k : Nat) (z v : Int) : mS := (M.1, va_up M.2 k (zup (M.2 k) z v))
/-- a loop from d on, ahead of n -/
def itr {α : Type} (f : Int → α → α) : Nat → Int → α → α
  | 0, _, a => a
  | k + 1, d, a => itr f k (d + 1) (f d a)
def lp {α : Type} (f : Int → α → α) (d n : Int) (a : α) : α := itr f (n - d).toNat d a
theorem lp_st {α : Type} {f : Int → α → α} {d n : Int} {a a' : α} (h : d < n) (hF : f d a = a') : lp f d n a = lp f (d + 1) n a' := by
  unfold lp
  rw [show (n - d).toNat = (n - (d + 1)).toNat + 1 by omega]
  show itr f _ (d + 1) (f d a) = _
  rw [hF]
theorem lp_ge {α : Type} {f : Int → α → α} {d n : Int} {a : α} (h : n ≤ d) : lp f d n a = a := by
  unfold lp
  rw [show (n - d).toNat = 0 by omega]
  rfl
theorem lp_bk {α : Type} {f : Int → α → α} {d n : Int} {a a' r : α} (hR : lp f d n a = r) (h : d < n) (hF : f d a = a') : lp f (d + 1) n a' = r := (lp_st h hF).symm.trans hR
theorem lp_ex {α : Type} {f : Int → α → α} {d n : Int} {a r : α} (hR : lp f d n a = r) (h : n ≤ d) : a = r := (lp_ge h).symm.trans hR
/-- a loop that may be left with an answer -/
theorem lp_some {α : Type} {f : Int → Option α → Option α} (hf : ∀ d v, f d (some v) = some v) : ∀ (k : Nat) (d : Int) (v : α), itr f k d (some v) = some v
  | 0, _, _ => rfl
  | k + 1, d, v => by show itr f k (d + 1) (f d (some v)) = _; rw [hf]; exact lp_some hf k (d + 1) v
theorem lp_out {α : Type} {f : Int → Option α → Option α} (hf : ∀ d v, f d (some v) = some v) {d n : Int} {v : α} {r : Option α} (hR : lp f d n none = r) (h : d < n) (hF : f d none = some v) : r = some v := by
  rw [← hR, lp_st h hF]
  exact lp_some hf _ _ _
abbrev mo_cell (ad : Nat → Nat) (M : mS) : va_E := oO 8 [.int (iI (M.1 0)), .int (iI (M.1 1)), .ref (ad 0), .int (iI (M.1 2)), .ref (ad 1), .int (iI (M.1 3)), .ref (ad 2), .ref (ad 3), .int (iI (M.1 4)), .int (iI (M.1 5)), .int (iI (M.1 6)), .ref (ad 4), .ref (ad 5), .int (iI (M.1 7)), .int (iI (M.1 8))]
/-- the model object and its rows hold M -/
def MD (X : tl_X) (σ : tl_H) (mo : Nat) (ad : Nat → Nat) (M : mS) : Prop :=
  σ mo = some (mo_cell ad M) ∧ σ (ad 0) = some (oI (X.2.2.1 0) 30 (zA (M.2 0))) ∧ σ (ad 1) = some (oI (X.2.2.1 0) 96 (zA (M.2 1))) ∧ σ (ad 2) = some (oI (X.2.2.1 0) 48 (zA (M.2 2))) ∧ σ (ad 3) = some (oI (X.2.2.1 1) 12 (zA (M.2 3))) ∧ σ (ad 4) = some (oI (X.2.2.1 0) 864 (zA (M.2 4))) ∧ σ (ad 5) = some (oI (X.2.2.1 1) 216 (zA (M.2 5))) ∧ ∀ i j : Nat, i < 6 → j < 6 → ad i = ad j → i = j
/-- the model's own cells -/
def mK (e : va_E) : Prop := (∃ fs, e = oO 8 fs) ∨ ∃ c n f, e = oI c n f
/-- what isn't the model's stays -/
def mFr (σ σ' : tl_H) : Prop := ∀ a e, σ a = some e → ¬ mK e → σ' a = some e
theorem mFr.rf {σ : tl_H} : mFr σ σ := fun _ _ h _ => h
theorem mFr.trans {a b c : tl_H} (h1 : mFr a b) (h2 : mFr b c) : mFr a c := fun q e h hn => h2 q e (h1 q e h hn) hn
theorem mFr.up {σ σ1 σ2 : tl_H} (h : mFr σ σ1) {a : Nat} {e : va_E} {v : Option va_E} (ha : σ1 a = some e) (hk : mK e) (e2 : σ2 = va_up σ1 a v) : mFr σ σ2 := by
  subst e2
  intro q f hq hn
  have h1 := h q f hq hn
  rw [up_n]
  · exact h1
  · intro z
    subst z
    rw [ha] at h1
    cases h1
    exact hn hk
theorem mK_o {fs : List Value} : mK (oO 8 fs) := Or.inl ⟨_, rfl⟩
theorem mK_i {c : ClassId} {n : Nat} {f : Nat → Int32} : mK (oI c n f) := Or.inr ⟨_, _, _, rfl⟩
/-- M is in bounds -/
def mI (M : mS) : Prop := (0 ≤ M.1 1 ∧ M.1 1 ≤ 10 ∧ 0 ≤ M.1 2 ∧ M.1 2 ≤ 24 ∧ 0 ≤ M.1 3 ∧ M.1 3 ≤ 12 ∧ 0 ≤ M.1 4 ∧ M.1 4 ≤ 10 ∧ 0 ≤ M.1 5 ∧ M.1 5 ≤ 50 ∧ 0 ≤ M.1 6 ∧ M.1 6 ≤ 216 ∧ -5000 ≤ M.1 0 ∧ M.1 0 ≤ 5000 ∧ -20000 ≤ M.1 7 ∧ M.1 7 ≤ 20000 ∧ -20000 ≤ M.1 8 ∧ M.1 8 ≤ 20000) ∧ (∀ k z, -9000 ≤ M.2 k z ∧ M.2 k z ≤ 9000) ∧ (∀ p, 0 ≤ p → p < M.1 6 → 0 ≤ M.2 4 (4 * p + 3) ∧ M.2 4 (4 * p + 3) < M.1 3) ∧ (∀ z, M.2 3 z = 0 ∨ M.2 3 z = 1) ∧ (∀ z, M.2 5 z = 0 ∨ M.2 5 z = 1) ∧ (∀ z, -3000 ≤ M.2 2 z ∧ M.2 2 z ≤ 3000)
theorem mI.t0 {M : mS} (h : mI M) (v : Int) (hv : -5000 ≤ v ∧ v ≤ 5000) : mI (mset M 0 v) := by
  obtain ⟨h1, h2⟩ := h
  refine ⟨?_, h2⟩
  show 0 ≤ M.1 1 ∧ M.1 1 ≤ 10 ∧ 0 ≤ M.1 2 ∧ M.1 2 ≤ 24 ∧ 0 ≤ M.1 3 ∧ M.1 3 ≤ 12 ∧ 0 ≤ M.1 4 ∧ M.1 4 ≤ 10 ∧ 0 ≤ M.1 5 ∧ M.1 5 ≤ 50 ∧ 0 ≤ M.1 6 ∧ M.1 6 ≤ 216 ∧ -5000 ≤ v ∧ v ≤ 5000 ∧ -20000 ≤ M.1 7 ∧ M.1 7 ≤ 20000 ∧ -20000 ≤ M.1 8 ∧ M.1 8 ≤ 20000
  omega
/-! what the methods compute -/
def mGrF (M : mS) (b pl d g : Int) : Int := if M.2 1 (4 * d) = b ∧ M.2 1 (4 * d + 1) ≤ pl ∧ pl ≤ M.2 1 (4 * d + 2) - 1 then max g (M.2 1 (4 * d + 3)) else g
def mGradeAt (M : mS) (b pl : Int) : Int := lp (mGrF M b pl) 0 (M.1 2) (M.2 0 (3 * b + 2))
def mNcF (M : mS) (b fr d nx : Int) : Int := if M.2 1 (4 * d) = b then (if fr < M.2 1 (4 * d + 2) then min (if fr < M.2 1 (4 * d + 1) then min nx (M.2 1 (4 * d + 1)) else nx) (M.2 1 (4 * d + 2)) else (if fr < M.2 1 (4 * d + 1) then min nx (M.2 1 (4 * d + 1)) else nx)) else nx
def mNext (M : mS) (b fr : Int) : Int := lp (mNcF M b fr) 0 (M.1 2) (M.2 0 (3 * b))
def mOwF (M : mS) (p ln b pl d : Int) (a : Option Int) : Option Int := match a with
  | some v => some v
  | none => if M.2 1 (4 * d) = b ∧ M.2 2 (4 * p + 2) < M.2 1 (4 * d + 3) ∧ M.2 1 (4 * d + 1) < pl + ln ∧ pl < M.2 1 (4 * d + 2) then some (M.2 1 (4 * d + 2)) else none
def mOwG (M : mS) (ln b pl q : Int) (a : Option Int) : Option Int := match a with
  | some v => some v
  | none => if M.2 4 (4 * q) = b ∧ M.2 4 (4 * q + 1) < pl + ln + M.1 4 ∧ pl < M.2 4 (4 * q + 2) + M.1 4 then some (M.2 4 (4 * q + 2) + M.1 4) else none
theorem mOwF_s (M : mS) (p ln b pl : Int) : ∀ d v, mOwF M p ln b pl d (some v) = some v := fun _ _ => rfl
theorem mOwG_s (M : mS) (ln b pl : Int) : ∀ d v, mOwG M ln b pl d (some v) = some v := fun _ _ => rfl
def mOnward (M : mS) (p ln b pl : Int) : Int :=
  if pl < 0 ∨ M.2 0 (3 * b) < pl + ln ∨ M.2 0 (3 * b + 1) < M.2 2 (4 * p + 1) ∨ M.2 2 (4 * p + 2) < M.2 0 (3 * b + 2) then 3000 else
  match lp (mOwF M p ln b pl) 0 (M.1 2) none with
  | some v => v
  | none => match lp (mOwG M ln b pl) 0 (M.1 6) none with
    | some v => v
    | none => pl
/-- the earliest place of part p on board b; -1 -/
def mErl (M : mS) (p b : Int) : Nat → Int → Int
  | 0, _ => -1
  | k + 1, pl => if 3000 ≤ pl then -1 else if mOnward M p (M.2 2 (4 * p + 0)) b pl = pl then pl else mErl M p b k (mOnward M p (M.2 2 (4 * p + 0)) b pl)
def mEarliest (M : mS) (p b : Int) : Int := mErl M p b 20001 0
/-- over the stretches of a board: how many; the last one's begin and end -/
def mGo (M : mS) (b g wn : Int) : Nat → Int → Int → Int → Int → Int → Int × Int × Int
  | 0, many, _, _, sf, st => (many, sf, st)
  | k + 1, many, was, pl, sf, st =>
    if M.2 0 (3 * b) ≤ pl then (many, sf, st)
    else if mGradeAt M b pl ≤ g then
      (if was = 0 then (if wn < many then (many, sf, st) else mGo M b g wn k (many + 1) 1 (mNext M b pl) pl (mNext M b pl))
       else mGo M b g wn k many 1 (mNext M b pl) sf (mNext M b pl))
    else mGo M b g wn k many 0 (mNext M b pl) sf st
def mRfF (M : mS) (b pl q fr : Int) : Int := if M.2 4 (4 * q) = b ∧ M.2 4 (4 * q + 2) ≤ pl then max fr (M.2 4 (4 * q + 2) + M.1 4) else fr
def mRoomFrom (M : mS) (b pl : Int) : Int := lp (mRfF M b pl) 0 (M.1 6) 0
def mRtF (M : mS) (b pl q t : Int) : Int := if M.2 4 (4 * q) = b ∧ pl < M.2 4 (4 * q + 1) then min t (M.2 4 (4 * q + 1) - M.1 4) else t
def mRoomTo (M : mS) (b pl : Int) : Int := lp (mRtF M b pl) 0 (M.1 6) (M.2 0 (3 * b))
def mPoF (M : mS) (b q n : Int) : Int := if M.2 4 (4 * q) = b then n + 1 else n + 0
def mPieces (M : mS) (b : Int) : Int := lp (mPoF M b) 0 (M.1 6) 0
def mPfF (M : mS) (b pl q best : Int) : Int := if M.2 4 (4 * q) = b ∧ pl ≤ M.2 4 (4 * q + 1) ∧ (best = -1 ∨ M.2 4 (4 * q + 1) < M.2 4 (4 * best + 1)) then q else best
def mPieceFrom (M : mS) (b pl : Int) : Int := lp (mPfF M b pl) 0 (M.1 6) (-1)
def mTold (M : mS) (p w : Int) : Int := if w = 0 then M.2 4 (4 * p + 3) else if w < 3 then M.2 4 (4 * p + w) else M.2 5 p
/-- a piece is added behind the others -/
def mAdd (M : mS) (p b pl ln j : Int) : mS := mset (aset (aset (aset (aset (aset M 4 (4 * M.1 6) b) 4 (4 * M.1 6 + 1) pl) 4 (4 * M.1 6 + 2) (pl + ln)) 4 (4 * M.1 6 + 3) p) 5 (M.1 6) j) 6 (M.1 6 + 1)
def mLess (M : mS) (p : Int) : mS := aset M 2 (4 * p + 3) (M.2 2 (4 * p + 3) - 1)
theorem mOnward_ge {M : mS} {p ln b pl : Int} (h : pl ≤ 3000) : pl ≤ mOnward M p ln b pl := by
  unfold mOnward
  split
  · exact h
  · split
    · rename_i v hv
      have key : ∀ (k : Nat) (d : Int) (a : Option Int), (∀ w, a = some w → pl ≤ w) → ∀ w, itr (mOwF M p ln b pl) k d a = some w → pl ≤ w := by
        intro k
        induction k with
        | zero => intro d a ha w hw; exact ha w hw
        | succ k ih =>
          intro d a ha w hw
          refine ih (d + 1) _ ?_ w hw
          intro w' hw'
          cases a with
          | some x => exact ha w' hw'
          | none =>
            simp only [mOwF] at hw'
            split at hw'
            · cases hw'; omega
            · cases hw'
      exact key _ _ _ (fun _ h => by cases h) v hv
    · split
      · rename_i v hv
        have key : ∀ (k : Nat) (d : Int) (a : Option Int), (∀ w, a = some w → pl ≤ w) → ∀ w, itr (mOwG M ln b pl) k d a = some w → pl ≤ w := by
          intro k
          induction k with
          | zero => intro d a ha w hw; exact ha w hw
          | succ k ih =>
            intro d a ha w hw
            refine ih (d + 1) _ ?_ w hw
            intro w' hw'
            cases a with
            | some x => exact ha w' hw'
            | none =>
              simp only [mOwG] at hw'
              split at hw'
              · cases hw'; omega
              · cases hw'
        exact key _ _ _ (fun _ h => by cases h) v hv
      · exact Int.le_refl _
