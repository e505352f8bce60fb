/-! SEARCH TREES, flat: keys, their children and parents, the open interval that each governs -/
set_option maxRecDepth 100000
def fup {α : Type} (f : Int → α) (k : Int) (x : α) : Int → α := fun z => if z = k then x else f z
theorem fup_s {α : Type} {f : Int → α} {k : Int} {x : α} : fup f k x k = x := by simp [fup]
theorem fup_n {α : Type} {f : Int → α} {k z : Int} {x : α} (h : z ≠ k) : fup f k x z = f z := by simp [fup, h]
/-- keys S, root, left, right, parent, the interval's ends -/
def BT (N : Int) (S : Int → Prop) (rt : Option Int) (lf rg pa : Int → Option Int) (lo hi : Int → Int) : Prop :=
  (∀ k, S k → -N ≤ lo k ∧ lo k < k ∧ k < hi k ∧ hi k ≤ N) ∧
  (∀ k, S k → (lo k = -N ∨ (S (lo k) ∧ k < hi (lo k))) ∧ (hi k = N ∨ (S (hi k) ∧ lo (hi k) < k))) ∧
  (∀ j k, S j → S k → (j < k → k < hi j → j ≤ lo k) ∧ (lo j < k → k < j → hi k ≤ j)) ∧
  (∀ k, S k → (∀ j, lf k = some j → S j ∧ pa j = some k ∧ lo j = lo k ∧ hi j = k) ∧ (lf k = none → ∀ j, S j → lo k < j → j < k → False)) ∧
  (∀ k, S k → (∀ j, rg k = some j → S j ∧ pa j = some k ∧ lo j = k ∧ hi j = hi k) ∧ (rg k = none → ∀ j, S j → k < j → j < hi k → False)) ∧
  (∀ k, S k → (∀ j, pa k = some j → S j ∧ (lf j = some k ∨ rg j = some k)) ∧ (pa k = none → rt = some k)) ∧
  (∀ k, rt = some k → S k ∧ pa k = none ∧ lo k = -N ∧ hi k = N) ∧
  (rt = none → ∀ k, ¬ S k)
/-- a key joins in a gap on the left of k -/
theorem BT.insL {N : Int} {S : Int → Prop} {rt : Option Int} {lf rg pa : Int → Option Int} {lo hi : Int → Int} (h : BT N S rt lf rg pa lo hi) {k v : Int} (hk : S k) (hv : lo k < v) (hv2 : v < k) (hl : lf k = none) :
    BT N (fun z => z = v ∨ S z) rt (fup (fup lf v none) k (some v)) (fup rg v none) (fup pa v (some k)) (fup lo v (lo k)) (fup hi v k) := by
  obtain ⟨h1, h2, h3, h4, h5, h6, h7, h8⟩ := h
  have hvS : ¬ S v := fun z => (h4 k hk).2 hl v z hv hv2
  unfold BT fup
  refine ⟨?_, ?_, ?_, ?_, ?_, ?_, ?_, ?_⟩
  · grind
  · grind
  · grind
  · intro z hz
    have b1 := h1 k hk
    have b4 := (h4 k hk).2 hl
    clear h2 h3 h5 h6 h7 h8 hl
    by_cases z1 : z = v
    · have z2 : z ≠ k := by omega
      rw [if_neg z2, if_pos z1, if_pos z1]
      refine ⟨fun j hj => (by cases hj), fun _ j hj a b => ?_⟩
      rcases hj with hj | hj
      · omega
      · exact b4 j hj a (by omega)
    · have hzS : S z := hz.resolve_left z1
      have a4 := h4 z hzS
      rw [if_neg z1, if_neg z1]
      by_cases z2 : z = k
      · rw [if_pos z2]
        refine ⟨fun j hj => ?_, fun hj => (by cases hj)⟩
        cases hj
        rw [if_pos rfl, if_pos rfl, if_pos rfl, z2]
        exact ⟨Or.inl rfl, rfl, rfl, rfl⟩
      · rw [if_neg z2]
        refine ⟨fun j hj => ?_, fun hn j hj a b => ?_⟩
        · obtain ⟨g1, g2, g3, g4⟩ := a4.1 j hj
          have hjv : j ≠ v := fun q => hvS (q ▸ g1)
          rw [if_neg hjv, if_neg hjv, if_neg hjv]
          exact ⟨Or.inr g1, g2, g3, g4⟩
        · rcases hj with hj | hj
          · subst hj
            rcases Int.lt_trichotomy z k with q | q | q
            · exact b4 z hzS (by omega) q
            · exact z2 q
            · exact a4.2 hn k hk (by omega) q
          · exact a4.2 hn j hj a b
  · intro z hz
    have b1 := h1 k hk
    have b2 := (h2 k hk).1
    have b4 := (h4 k hk).2 hl
    by_cases z1 : z = v
    · rw [if_pos z1, if_pos z1]
      refine ⟨fun j hj => (by cases hj), fun _ j hj a b => ?_⟩
      rcases hj with hj | hj
      · omega
      · exact b4 j hj (by omega) b
    · have hzS : S z := hz.resolve_left z1
      have a5 := h5 z hzS
      rw [if_neg z1, if_neg z1]
      refine ⟨fun j hj => ?_, fun hn j hj a b => ?_⟩
      · obtain ⟨g1, g2, g3, g4⟩ := a5.1 j hj
        have hjv : j ≠ v := fun q => hvS (q ▸ g1)
        rw [if_neg hjv, if_neg hjv, if_neg hjv]
        exact ⟨Or.inr g1, g2, g3, g4⟩
      · rcases hj with hj | hj
        · subst hj
          have c1 : z ≤ lo k := Int.not_lt.mp fun q => b4 z hzS q (by omega)
          have c2 : hi z ≤ k := Int.not_lt.mp fun q => a5.2 hn k hk (by omega) q
          have d1 := h1 z hzS
          rcases b2 with b2 | ⟨b2, b3⟩
          · omega
          · rcases Int.lt_or_eq_of_le c1 with q | q
            · exact a5.2 hn (lo k) b2 q (by omega)
            · rw [← q] at b3
              omega
        · exact a5.2 hn j hj a b
  · intro z hz
    by_cases z1 : z = v
    · rw [if_pos z1]
      refine ⟨fun j hj => ?_, fun hj => (by cases hj)⟩
      cases hj
      have q : k ≠ v := by omega
      rw [if_pos rfl]
      exact ⟨Or.inr hk, Or.inl (by rw [z1])⟩
    · have hzS : S z := hz.resolve_left z1
      have a6 := h6 z hzS
      rw [if_neg z1]
      refine ⟨fun j hj => ?_, a6.2⟩
      obtain ⟨g1, g2⟩ := a6.1 j hj
      have hjv : j ≠ v := fun q => hvS (q ▸ g1)
      have hjk : j = k → lf j ≠ some z := fun q => by rw [q, hl]; exact fun q => by cases q
      rw [if_neg hjv, if_neg hjv]
      refine ⟨Or.inr g1, ?_⟩
      by_cases q : j = k
      · exact Or.inr (g2.resolve_left (hjk q))
      · rw [if_neg q]
        exact g2
  · grind
  · grind
/-- a key joins in a gap on the right of k -/
theorem BT.insR {N : Int} {S : Int → Prop} {rt : Option Int} {lf rg pa : Int → Option Int} {lo hi : Int → Int} (h : BT N S rt lf rg pa lo hi) {k v : Int} (hk : S k) (hv : k < v) (hv2 : v < hi k) (hl : rg k = none) :
    BT N (fun z => z = v ∨ S z) rt (fup lf v none) (fup (fup rg v none) k (some v)) (fup pa v (some k)) (fup lo v k) (fup hi v (hi k)) := by
  obtain ⟨h1, h2, h3, h4, h5, h6, h7, h8⟩ := h
  have hvS : ¬ S v := fun z => (h5 k hk).2 hl v z hv hv2
  unfold BT fup
  refine ⟨?_, ?_, ?_, ?_, ?_, ?_, ?_, ?_⟩
  · grind
  · grind
  · grind
  · intro z hz
    have b1 := h1 k hk
    have b2 := (h2 k hk).2
    have b5 := (h5 k hk).2 hl
    by_cases z1 : z = v
    · rw [if_pos z1, if_pos z1]
      refine ⟨fun j hj => (by cases hj), fun _ j hj a b => ?_⟩
      rcases hj with hj | hj
      · omega
      · exact b5 j hj a (by omega)
    · have hzS : S z := hz.resolve_left z1
      have a4 := h4 z hzS
      rw [if_neg z1, if_neg z1]
      refine ⟨fun j hj => ?_, fun hn j hj a b => ?_⟩
      · obtain ⟨g1, g2, g3, g4⟩ := a4.1 j hj
        have hjv : j ≠ v := fun q => hvS (q ▸ g1)
        rw [if_neg hjv, if_neg hjv, if_neg hjv]
        exact ⟨Or.inr g1, g2, g3, g4⟩
      · rcases hj with hj | hj
        · subst hj
          have c1 : hi k ≤ z := Int.not_lt.mp fun q => b5 z hzS (by omega) q
          have c2 : k ≤ lo z := Int.not_lt.mp fun q => a4.2 hn k hk q (by omega)
          have d1 := h1 z hzS
          rcases b2 with b2 | ⟨b2, b3⟩
          · omega
          · rcases Int.lt_or_eq_of_le c1 with q | q
            · exact a4.2 hn (hi k) b2 (by omega) q
            · rw [q] at b3
              omega
        · exact a4.2 hn j hj a b
  · intro z hz
    have b1 := h1 k hk
    have b5 := (h5 k hk).2 hl
    by_cases z1 : z = v
    · have z2 : z ≠ k := by omega
      rw [if_neg z2, if_pos z1, if_pos z1]
      refine ⟨fun j hj => (by cases hj), fun _ j hj a b => ?_⟩
      rcases hj with hj | hj
      · omega
      · exact b5 j hj (by omega) b
    · have hzS : S z := hz.resolve_left z1
      have a5 := h5 z hzS
      rw [if_neg z1, if_neg z1]
      by_cases z2 : z = k
      · rw [if_pos z2]
        refine ⟨fun j hj => ?_, fun hj => (by cases hj)⟩
        cases hj
        rw [if_pos rfl, if_pos rfl, if_pos rfl, z2]
        exact ⟨Or.inl rfl, rfl, rfl, rfl⟩
      · rw [if_neg z2]
        refine ⟨fun j hj => ?_, fun hn j hj a b => ?_⟩
        · obtain ⟨g1, g2, g3, g4⟩ := a5.1 j hj
          have hjv : j ≠ v := fun q => hvS (q ▸ g1)
          rw [if_neg hjv, if_neg hjv, if_neg hjv]
          exact ⟨Or.inr g1, g2, g3, g4⟩
        · rcases hj with hj | hj
          · subst hj
            rcases Int.lt_trichotomy z k with q | q | q
            · exact a5.2 hn k hk q (by omega)
            · exact z2 q
            · exact b5 z hzS q (by omega)
          · exact a5.2 hn j hj a b
  · intro z hz
    by_cases z1 : z = v
    · rw [if_pos z1]
      refine ⟨fun j hj => ?_, fun hj => (by cases hj)⟩
      cases hj
      refine ⟨Or.inr hk, Or.inr ?_⟩
      rw [if_pos rfl, z1]
    · have hzS : S z := hz.resolve_left z1
      have a6 := h6 z hzS
      rw [if_neg z1]
      refine ⟨fun j hj => ?_, a6.2⟩
      obtain ⟨g1, g2⟩ := a6.1 j hj
      have hjv : j ≠ v := fun q => hvS (q ▸ g1)
      have hjk : j = k → rg j ≠ some z := fun q => by rw [q, hl]; exact fun q => by cases q
      rw [if_neg hjv, if_neg hjv]
      refine ⟨Or.inr g1, ?_⟩
      by_cases q : j = k
      · exact Or.inl (g2.resolve_right (hjk q))
      · rw [if_neg q]
        exact g2
  · grind
  · grind
/-- the children, parents behind a rotation to the left about x, whose right child is y -/
def rlL (lf : Int → Option Int) (x y : Int) : Int → Option Int := fun z => if z = y then some x else if lf z = some x then some y else lf z
def rlR (lf rg : Int → Option Int) (x y : Int) : Int → Option Int := fun z => if z = x then lf y else if rg z = some x then some y else rg z
def rlP (lf pa : Int → Option Int) (x y : Int) : Int → Option Int := fun z => if z = x then some y else if z = y then pa x else if lf y = some z then some x else pa z
def rlT (rt : Option Int) (x y : Int) : Option Int := if rt = some x then some y else rt
theorem BT.rotL {N : Int} {S : Int → Prop} {rt : Option Int} {lf rg pa : Int → Option Int} {lo hi : Int → Int} (h : BT N S rt lf rg pa lo hi) {x y : Int} (hx : S x) (hy : rg x = some y) :
    BT N S (rlT rt x y) (rlL lf x y) (rlR lf rg x y) (rlP lf pa x y) (fup lo y (lo x)) (fup hi x y) := by
  obtain ⟨h1, h2, h3, h4, h5, h6, h7, h8⟩ := h
  obtain ⟨sy, py, ly, hiy⟩ := (h5 x hx).1 y hy
  have x1 := h1 x hx
  have y1 := h1 y sy
  have hxy : x ≠ y := by omega
  unfold BT fup rlL rlR rlP rlT
  refine ⟨?_, ?_, ?_, ?_, ?_, ?_, ?_, ?_⟩
  · clear h2 h3 h4 h5 h6 h7 h8; grind
  · intro k hk
    have k1 := h1 k hk
    have k2 := h2 k hk
    have k3 := h3 y k sy hk
    have x2 := h2 x hx
    by_cases ky : k = y
    · subst ky
      rw [if_pos rfl, if_neg (Ne.symm hxy)]
      constructor
      · rcases x2.1 with g | ⟨g, g'⟩
        · exact Or.inl g
        · refine Or.inr ⟨g, ?_⟩
          rw [if_neg (by omega)]
          have l2 := (h2 (lo x) g).2
          rcases l2 with l2 | ⟨l2, l3⟩
          · omega
          · have l4 := h3 x (hi (lo x)) hx l2
            refine Int.not_le.mp fun q => ?_
            have l5 := l4.1 g' (by omega)
            omega
      · rcases k2.2 with g | ⟨g, g'⟩
        · exact Or.inl g
        · refine Or.inr ⟨g, ?_⟩
          rw [if_neg (by omega)]
          exact g'
    · rw [if_neg ky]
      by_cases kx : k = x
      · subst kx
        rw [if_pos rfl, if_pos rfl]
        constructor
        · rcases k2.1 with g | ⟨g, g'⟩
          · exact Or.inl g
          · refine Or.inr ⟨g, ?_⟩
            rw [if_neg (by omega)]
            exact g'
        · exact Or.inr ⟨sy, by omega⟩
      · rw [if_neg kx]
        constructor
        · rcases k2.1 with g | ⟨g, g'⟩
          · exact Or.inl g
          · refine Or.inr ⟨g, ?_⟩
            by_cases q : lo k = x
            · rw [if_pos q]
              rw [q] at g'
              refine Int.not_le.mp fun q2 => ?_
              have := k3.1 (by omega) (by omega)
              omega
            · rw [if_neg q]
              exact g'
        · rcases k2.2 with g | ⟨g, g'⟩
          · exact Or.inl g
          · refine Or.inr ⟨g, ?_⟩
            by_cases q : hi k = y
            · rw [if_pos q]
              rw [q] at g'
              omega
            · rw [if_neg q]
              exact g'
  · intro j k hj hk
    have k1 := h1 k hk
    have j1 := h1 j hj
    have a1 := h3 j k hj hk
    have a2 := h3 x k hx hk
    have a3 := h3 y k sy hk
    have a4 := h3 j x hj hx
    have a5 := h3 j y hj sy
    clear h1 h2 h3 h4 h5 h6 h7 h8
    grind
  · intro z hz
    have z1 := h1 z hz
    have z4 := h4 z hz
    have y4 := h4 y sy
    have x4 := h4 x hx
    clear h2 h3 h5 h6 h7 h8
    grind
  · intro z hz
    have z1 := h1 z hz
    have z5 := h5 z hz
    have y4 := h4 y sy
    clear h2 h3 h4 h5 h6 h7 h8
    grind
  · intro z hz
    have z6 := h6 z hz
    have x6 := h6 x hx
    have x4 := h4 x hx
    have y4 := h4 y sy
    have y5 := h5 y sy
    clear h2 h3 h4 h5 h6 h7 h8
    grind
  · have y4 := h4 y sy
    clear h1 h2 h3 h4 h5 h6 h8
    grind
  · clear h1 h2 h3 h4 h5 h6 h7
    grind
theorem BT.rotR {N : Int} {S : Int → Prop} {rt : Option Int} {lf rg pa : Int → Option Int} {lo hi : Int → Int} (h : BT N S rt lf rg pa lo hi) {x y : Int} (hx : S x) (hy : lf x = some y) :
    BT N S (rlT rt x y) (rlR rg lf x y) (rlL rg x y) (rlP rg pa x y) (fup lo x y) (fup hi y (hi x)) := by
  obtain ⟨h1, h2, h3, h4, h5, h6, h7, h8⟩ := h
  obtain ⟨sy, py, ly, hiy⟩ := (h4 x hx).1 y hy
  have x1 := h1 x hx
  have y1 := h1 y sy
  have hxy : x ≠ y := by omega
  unfold BT fup rlL rlR rlP rlT
  refine ⟨?_, ?_, ?_, ?_, ?_, ?_, ?_, ?_⟩
  · clear h2 h3 h4 h5 h6 h7 h8; grind
  · intro k hk
    have k1 := h1 k hk
    have k2 := h2 k hk
    have k3 := h3 y k sy hk
    have x2 := h2 x hx
    by_cases ky : k = y
    · subst ky
      rw [if_pos rfl, if_neg (Ne.symm hxy)]
      constructor
      · rcases k2.1 with g | ⟨g, g'⟩
        · exact Or.inl g
        · refine Or.inr ⟨g, ?_⟩
          rw [if_neg (by omega)]
          exact g'
      · rcases x2.2 with g | ⟨g, g'⟩
        · exact Or.inl g
        · refine Or.inr ⟨g, ?_⟩
          rw [if_neg (by omega)]
          have l2 := (h2 (hi x) g).1
          rcases l2 with l2 | ⟨l2, l3⟩
          · omega
          · have l4 := h3 x (lo (hi x)) hx l2
            refine Int.not_le.mp fun q => ?_
            have l5 := l4.2 (by omega) g'
            omega
    · rw [if_neg ky]
      by_cases kx : k = x
      · subst kx
        rw [if_pos rfl, if_pos rfl]
        constructor
        · exact Or.inr ⟨sy, by omega⟩
        · rcases k2.2 with g | ⟨g, g'⟩
          · exact Or.inl g
          · refine Or.inr ⟨g, ?_⟩
            rw [if_neg (by omega)]
            exact g'
      · rw [if_neg kx]
        constructor
        · rcases k2.1 with g | ⟨g, g'⟩
          · exact Or.inl g
          · refine Or.inr ⟨g, ?_⟩
            by_cases q : lo k = y
            · rw [if_pos q]
              rw [q] at g'
              omega
            · rw [if_neg q]
              exact g'
        · rcases k2.2 with g | ⟨g, g'⟩
          · exact Or.inl g
          · refine Or.inr ⟨g, ?_⟩
            by_cases q : hi k = x
            · rw [if_pos q]
              rw [q] at g'
              refine Int.not_le.mp fun q2 => ?_
              have := k3.2 (by omega) (by omega)
              omega
            · rw [if_neg q]
              exact g'
  · intro j k hj hk
    have k1 := h1 k hk
    have j1 := h1 j hj
    have a1 := h3 j k hj hk
    have a2 := h3 x k hx hk
    have a3 := h3 y k sy hk
    have a4 := h3 j x hj hx
    have a5 := h3 j y hj sy
    clear h1 h2 h3 h4 h5 h6 h7 h8
    grind
  · intro z hz
    have z1 := h1 z hz
    have z4 := h4 z hz
    have y5 := h5 y sy
    clear h2 h3 h4 h5 h6 h7 h8
    grind
  · intro z hz
    have z1 := h1 z hz
    have z5 := h5 z hz
    have y5 := h5 y sy
    have x5 := h5 x hx
    clear h2 h3 h4 h6 h7 h8
    grind
  · intro z hz
    have z6 := h6 z hz
    have x6 := h6 x hx
    have x5 := h5 x hx
    have y5 := h5 y sy
    have y4 := h4 y sy
    clear h2 h3 h4 h5 h6 h7 h8
    grind
  · have y5 := h5 y sy
    clear h1 h2 h3 h4 h5 h6 h8
    grind
  · clear h1 h2 h3 h4 h5 h6 h7
    grind
