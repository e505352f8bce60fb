/-! FURTHER ANSWERS OF THE MODEL: stretches, the plan (plain) -/
set_option maxRecDepth 100000
theorem lp_inv {α : Type} {f : Int → α → α} (P : α → Prop) (hs : ∀ d a, P a → P (f d a)) {d n : Int} {a : α} (h0 : P a) : P (lp f d n a) := by
  unfold lp
  generalize (n - d).toNat = k
  induction k generalizing d a with
  | zero => exact h0
  | succ k ih => exact ih (hs d a h0)
/-- .. with the place's bounds -/
theorem lp_invB {α : Type} {f : Int → α → α} (P : Int → α → Prop) {d n : Int} {a : α} (hd : d ≤ n) (hs : ∀ z a, d ≤ z → z < n → P z a → P (z + 1) (f z a)) (h0 : P d a) : P n (lp f d n a) := by
  unfold lp
  generalize hk : (n - d).toNat = k
  induction k generalizing d a with
  | zero => rw [show n = d by omega]; exact h0
  | succ k ih => exact ih (d := d + 1) (a := f d a) (by omega) (fun z b h1 h2 h3 => hs z b (by omega) h2 h3) (hs d a (Int.le_refl _) (by omega) h0) (by omega)
theorem mNext_bd {M : mS} {b pl : Int} (h : pl < M.2 0 (3 * b)) : pl < mNext M b pl ∧ mNext M b pl ≤ M.2 0 (3 * b) := by
  unfold mNext
  refine lp_inv (fun a => pl < a ∧ a ≤ M.2 0 (3 * b)) ?_ ⟨h, Int.le_refl _⟩
  intro d a ha
  unfold mNcF
  (repeat' split) <;> omega
theorem mGradeAt_bd {M : mS} (hI : mI M) (b pl : Int) : -9000 ≤ mGradeAt M b pl ∧ mGradeAt M b pl ≤ 9000 := by
  unfold mGradeAt
  refine lp_inv (fun a => -9000 ≤ a ∧ a ≤ 9000) ?_ (hI.2.1 0 _)
  intro d a ha
  have := hI.2.1 1 (4 * d + 3)
  unfold mGrF
  split <;> omega
theorem mI.s78 {M : mS} (h : mI M) {x y : Int} (hx : -20000 ≤ x ∧ x ≤ 20000) (hy : -20000 ≤ y ∧ y ≤ 20000) : mI (mset (mset M 7 x) 8 y) := by
  obtain ⟨h1, h2⟩ := h
  refine ⟨?_, h2⟩
  show 0 ≤ M.1 1 ∧ M.1 1 ≤ 10 ∧ 0 ≤ M.1 2 ∧ M.1 2 ≤ 24 ∧ 0 ≤ M.1 3 ∧ M.1 3 ≤ 12 ∧ 0 ≤ M.1 4 ∧ M.1 4 ≤ 10 ∧ 0 ≤ M.1 5 ∧ M.1 5 ≤ 50 ∧ 0 ≤ M.1 6 ∧ M.1 6 ≤ 216 ∧ -5000 ≤ M.1 0 ∧ M.1 0 ≤ 5000 ∧ -20000 ≤ x ∧ x ≤ 20000 ∧ -20000 ≤ y ∧ y ≤ 20000
  omega
abbrev mGoR (M : mS) (b g wn : Int) : Int × Int × Int := mGo M b g wn 20001 0 0 0 (M.1 7) (M.1 8)
def mStretches (M : mS) (b g : Int) : Int × mS :=
  if 0 ≤ b ∧ b ≤ M.1 1 - 1 then
    (if 0 ≤ g ∧ g ≤ 3 then ((mGoR M b g 3000).1, mset (mset M 7 (mGoR M b g 3000).2.1) 8 (mGoR M b g 3000).2.2) else (0, mset M 0 2))
  else (0, mset M 0 1)
def mStretch (M : mS) (b g k ie : Int) : Int × mS :=
  if 0 ≤ b ∧ b ≤ M.1 1 - 1 then
    (if (0 ≤ g ∧ g ≤ 3) ∧ 0 ≤ k then
      (if k < (mGoR M b g k).1 then ((if ie = 0 then (mGoR M b g k).2.1 else (mGoR M b g k).2.2), mset (mset M 7 (mGoR M b g k).2.1) 8 (mGoR M b g k).2.2)
       else (0, mset (mset (mset M 7 (mGoR M b g k).2.1) 8 (mGoR M b g k).2.2) 0 2))
     else (0, mset M 0 2))
  else (0, mset M 0 1)
/-! the plan -/
theorem mEarliest_bd {M : mS} {p b : Int} : -1 ≤ mEarliest M p b ∧ mEarliest M p b < 3000 := by
  unfold mEarliest
  have key : ∀ (k : Nat) (pl : Int), 0 ≤ pl → -1 ≤ mErl M p b k pl ∧ mErl M p b k pl < 3000 := by
    intro k
    induction k with
    | zero => intro pl _; show -1 ≤ (-1 : Int) ∧ (-1 : Int) < 3000; omega
    | succ k ih =>
      intro pl h0
      unfold mErl
      split
      · exact ⟨by decide, by decide⟩
      · split
        · omega
        · exact ih _ (by have := mOnward_ge (M := M) (p := p) (ln := M.2 2 (4 * p + 0)) (b := b) (pl := pl) (by omega); omega)
  exact key _ _ (Int.le_refl _)
theorem mRoomFrom_bd {M : mS} (hI : mI M) (b pl : Int) : -20000 ≤ mRoomFrom M b pl ∧ mRoomFrom M b pl ≤ 20000 := by
  unfold mRoomFrom
  refine lp_inv (fun a => -20000 ≤ a ∧ a ≤ 20000) ?_ (by omega)
  intro d a ha
  have := hI.2.1 4 (4 * d + 2)
  have := hI.1
  unfold mRfF
  split <;> omega
theorem mRoomTo_bd {M : mS} (hI : mI M) (b pl : Int) : -20000 ≤ mRoomTo M b pl ∧ mRoomTo M b pl ≤ 20000 := by
  unfold mRoomTo
  refine lp_inv (fun a => -20000 ≤ a ∧ a ≤ 20000) ?_ (by have := hI.2.1 0 (3 * b); omega)
  intro d a ha
  have := hI.2.1 4 (4 * d + 1)
  have := hI.1
  unfold mRtF
  split <;> omega
def mCanF (M : mS) (p b a : Int) : Int := if a ≠ 0 then a else if mEarliest M p b = -1 then 0 else 1
/-- whether part p can be cut from some board -/
def mCan (M : mS) (p : Int) : Int := if 0 < M.2 2 (4 * p + 3) then lp (mCanF M p) 0 (M.1 1) 0 else 0
theorem mCan_abs {M : mS} {p d n : Int} : lp (mCanF M p) d n 1 = 1 := lp_inv (fun a => a = 1) (fun d a h => by unfold mCanF; rw [if_pos (by omega)]; exact h) rfl
def mBestF (M : mS) (p bs : Int) : Int := if mCan M p ≠ 0 ∧ (bs = -1 ∨ M.2 2 (4 * bs + 0) < M.2 2 (4 * p + 0) ∨ M.2 2 (4 * p + 0) = M.2 2 (4 * bs + 0) ∧ M.2 2 (4 * p + 2) < M.2 2 (4 * bs + 2)) then p else bs
/-- the part that is cut next; -1 -/
def mBest (M : mS) : Int := lp (mBestF M) 0 (M.1 3) (-1)
def mOnF (M : mS) (p b : Int) (a : Int × Int) : Int × Int := if mEarliest M p b = -1 then a else if a.1 ≠ -1 ∧ a.2 ≤ mRoomTo M b (mEarliest M p b) - mRoomFrom M b (mEarliest M p b) then a else (b, mRoomTo M b (mEarliest M p b) - mRoomFrom M b (mEarliest M p b))
/-- the board that it is cut from, and its room there -/
def mOn (M : mS) (p : Int) : Int × Int := lp (mOnF M p) 0 (M.1 1) (-1, 0)
theorem mCan_left {M : mS} {p : Int} (h : mCan M p ≠ 0) : 0 < M.2 2 (4 * p + 3) := by
  unfold mCan at h
  split at h
  · assumption
  · exact absurd rfl h
theorem mOn_ok {M : mS} (hb : 0 ≤ M.1 1) {p : Int} (h : mCan M p ≠ 0) : 0 ≤ (mOn M p).1 ∧ (mOn M p).1 < M.1 1 ∧ mEarliest M p (mOn M p).1 ≠ -1 := by
  have hl := mCan_left h
  unfold mCan at h
  rw [if_pos hl] at h
  -- both loops side by side
  have key := lp_invB (f := fun b (a : Int × (Int × Int)) => (mCanF M p b a.1, mOnF M p b a.2)) (fun z a => (a.1 ≠ 0 → 0 ≤ a.2.1) ∧ (a.2.1 = -1 ∨ 0 ≤ a.2.1 ∧ a.2.1 < z ∧ mEarliest M p a.2.1 ≠ -1)) (d := 0) (n := M.1 1) (a := (0, (-1, 0))) hb ?_ ⟨fun q => absurd rfl q, Or.inl rfl⟩
  · have e1 : ∀ (k : Nat) (d x : Int) (y : Int × Int), itr (fun b (a : Int × (Int × Int)) => (mCanF M p b a.1, mOnF M p b a.2)) k d (x, y) = (itr (mCanF M p) k d x, itr (mOnF M p) k d y) := by
      intro k
      induction k with
      | zero => intro d x y; rfl
      | succ k ih => intro d x y; exact ih _ _ _
    have e2 : lp (fun b (a : Int × (Int × Int)) => (mCanF M p b a.1, mOnF M p b a.2)) 0 (M.1 1) (0, (-1, 0)) = (lp (mCanF M p) 0 (M.1 1) 0, lp (mOnF M p) 0 (M.1 1) (-1, 0)) := e1 _ _ _ _
    rw [e2] at key
    obtain ⟨k1, k2⟩ := key
    have k1 : 0 ≤ (mOn M p).1 := k1 h
    have k2 : (mOn M p).1 = -1 ∨ 0 ≤ (mOn M p).1 ∧ (mOn M p).1 < M.1 1 ∧ mEarliest M p (mOn M p).1 ≠ -1 := k2
    omega
  · intro z a h0 h1 ha
    obtain ⟨x, y⟩ := a
    obtain ⟨a1, a2⟩ := ha
    dsimp only at a1 a2 ⊢
    by_cases he : mEarliest M p z = -1
    · have e1 : mCanF M p z x = x := by unfold mCanF; split <;> first | rfl | omega
      have e2 : mOnF M p z y = y := by unfold mOnF; rw [if_pos he]
      rw [e1, e2]
      exact ⟨a1, by omega⟩
    · have e2 : mOnF M p z y = y ∧ y.1 ≠ -1 ∨ (mOnF M p z y).1 = z := by
        unfold mOnF
        rw [if_neg he]
        split
        · left; exact ⟨rfl, by omega⟩
        · right; rfl
      rcases e2 with ⟨e2, e3⟩ | e2
      · rw [e2]
        exact ⟨fun _ => by omega, by omega⟩
      · refine ⟨fun _ => by omega, Or.inr ⟨by omega, by omega, by rw [e2]; exact he⟩⟩
/-- one part is cut by the plan, if one can be -/
def mPlanOne (M : mS) : Int × mS := if mBest M = -1 then (0, M) else (1, mLess (mAdd M (mBest M) (mOn M (mBest M)).1 (mEarliest M (mBest M) (mOn M (mBest M)).1) (M.2 2 (4 * mBest M + 0)) 0) (mBest M))
def mPlF : Nat → Int → mS → Int × mS
  | 0, k, M => (k, M)
  | n + 1, k, M => if mBest M = -1 then (k, M) else mPlF n (k + 1) (mPlanOne M).2
def mPlan (M : mS) : Int × mS := mPlF 300 0 M
theorem mBest_ok {M : mS} (hp : 0 ≤ M.1 3) : mBest M = -1 ∨ 0 ≤ mBest M ∧ mBest M < M.1 3 ∧ mCan M (mBest M) ≠ 0 := by
  refine lp_invB (fun z a => a = -1 ∨ 0 ≤ a ∧ a < z ∧ mCan M a ≠ 0) hp ?_ (Or.inl rfl)
  intro z a h0 h1 ha
  unfold mBestF
  split
  · rename_i h
    exact Or.inr ⟨h0, by omega, h.1⟩
  · omega
theorem mI.less {M : mS} (h : mI M) {p : Int} (hp : 0 < M.2 2 (4 * p + 3)) : mI (mLess M p) := by
  obtain ⟨h1, h2, h3, h4, h5, h7⟩ := h
  have hw := h7 (4 * p + 3)
  refine ⟨h1, ?_, h3, h4, h5, ?_⟩
  · intro k z
    by_cases hk : k = 2
    · subst hk
      exact zup_b (h2 2) (by omega) z
    · have e : (mLess M p).2 k = M.2 k := by simp [mLess, aset, va_up, hk]
      rw [e]
      exact h2 k z
  · exact zup_b h7 (by omega)
/-- how often parts are left, in all -/
def mSum (M : mS) : Int := lp (fun p a => a + M.2 2 (4 * p + 3)) 0 (M.1 3) 0
theorem lp_sum {g h : Int → Int} {p n : Int} (hp : 0 ≤ p ∧ p < n) (e : ∀ q, h q = if q = p then g q - 1 else g q) (a : Int) : lp (fun q a => a + h q) 0 n a = lp (fun q a => a + g q) 0 n a - 1 := by
  have key2 : ∀ (k : Nat) (d x y : Int), (if p < d then x = y - 1 else x = y) → (if p < d + k then itr (fun q a => a + h q) k d x = itr (fun q a => a + g q) k d y - 1 else itr (fun q a => a + h q) k d x = itr (fun q a => a + g q) k d y) := by
    intro k
    induction k with
    | zero => intro d x y h1; rw [show d + ((0 : Nat) : Int) = d by omega]; exact h1
    | succ k ih =>
      intro d x y h1
      have h2 := ih (d + 1) (x + h d) (y + g d) (by rw [e d]; split at h1 <;> (repeat' split) <;> omega)
      rw [show d + ((k + 1 : Nat) : Int) = d + 1 + (k : Int) by omega]
      exact h2
  have := key2 (n - 0).toNat 0 a a (by rw [if_neg (by omega)])
  rw [if_pos (by omega)] at this
  exact this
theorem mSum_one {M : mS} (hp : 0 ≤ M.1 3) (hb : mBest M ≠ -1) : mSum (mPlanOne M).2 = mSum M - 1 ∧ (mPlanOne M).2.1 6 = M.1 6 + 1 ∧ (mPlanOne M).2.1 3 = M.1 3 := by
  have hk := mBest_ok (M := M) hp
  unfold mPlanOne
  rw [if_neg hb]
  refine ⟨?_, rfl, rfl⟩
  unfold mSum
  show lp (fun p a => a + zup (M.2 2) (4 * mBest M + 3) (M.2 2 (4 * mBest M + 3) - 1) (4 * p + 3)) 0 (M.1 3) 0 = _
  refine lp_sum (p := mBest M) (by omega) (fun q => ?_) 0
  by_cases hq : q = mBest M
  · rw [if_pos hq, hq, zup_s]
  · rw [if_neg hq, zup_n (by omega)]
theorem mPlan_left {M : mS} (hp : 0 ≤ M.1 3) (hb : mBest M ≠ -1) (hL : ∀ p, 0 ≤ p → p < M.1 3 → 0 ≤ M.2 2 (4 * p + 3)) : ∀ p, 0 ≤ p → p < (mPlanOne M).2.1 3 → 0 ≤ (mPlanOne M).2.2 2 (4 * p + 3) := by
  have hk := mBest_ok (M := M) hp
  have hl := mCan_left (M := M) (p := mBest M) (by omega)
  unfold mPlanOne
  rw [if_neg hb]
  intro p h0 h1
  have h1 : p < M.1 3 := h1
  show 0 ≤ zup (M.2 2) (4 * mBest M + 3) (M.2 2 (4 * mBest M + 3) - 1) (4 * p + 3)
  unfold zup
  split
  · omega
  · exact hL p h0 h1
theorem mSum_pos {M : mS} (hp : 0 ≤ M.1 3) (hL : ∀ p, 0 ≤ p → p < M.1 3 → 0 ≤ M.2 2 (4 * p + 3)) : 0 ≤ mSum M := lp_invB (fun _ a => 0 ≤ a) hp (fun z a h0 h1 ha => by have := hL z h0 h1; omega) (Int.le_refl _)
theorem mSum_ge {M : mS} (hp : 0 ≤ M.1 3) (hL : ∀ p, 0 ≤ p → p < M.1 3 → 0 ≤ M.2 2 (4 * p + 3)) {q : Int} (h0 : 0 ≤ q) (h1 : q < M.1 3) : M.2 2 (4 * q + 3) ≤ mSum M := by
  have := lp_invB (f := fun p a => a + M.2 2 (4 * p + 3)) (fun z a => 0 ≤ a ∧ (q < z → M.2 2 (4 * q + 3) ≤ a)) (d := 0) (n := M.1 3) (a := 0) hp (fun z a h0 h1 ha => by
    have := hL z h0 h1
    refine ⟨by omega, fun hq => ?_⟩
    by_cases hz : q = z
    · subst hz; omega
    · have := ha.2 (by omega); omega) ⟨Int.le_refl _, fun h => by omega⟩
  exact this.2 h1
theorem mI.plan {M : mS} (h : mI M) (hb : mBest M ≠ -1) (h6 : M.1 6 < 216) : mI (mPlanOne M).2 := by
  have hk := mBest_ok (M := M) h.1.2.2.2.2.1
  have hk : 0 ≤ mBest M ∧ mBest M < M.1 3 ∧ mCan M (mBest M) ≠ 0 := by omega
  have ho := mOn_ok (M := M) h.1.1 hk.2.2
  have he := mEarliest_bd (M := M) (p := mBest M) (b := (mOn M (mBest M)).1)
  have hl := mCan_left hk.2.2
  have hw := h.2.2.2.2.2 (4 * mBest M + 0)
  unfold mPlanOne
  rw [if_neg hb]
  have hN := h.1
  exact mI.less (h.add (by omega) (by omega) (by omega) (by omega) (Or.inl rfl) h6) hl
