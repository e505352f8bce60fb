/-! an entry joins the heap's tree -/
set_option maxRecDepth 100000
theorem map_fup {ad : Int → Nat} {x : Int} {E : Nat} {oo : Option Int} (h : ∀ j, oo = some j → j ≠ x) : oo.map (fup ad x E) = oo.map ad := by
  cases oo with
  | none => rfl
  | some j => exact congrArg some (fup_n (h j rfl))
theorem TM.ins {X : tl_X} {σ σ' : tl_H} {T E a : Nat} {n md N : Int} {ks : Option Nat} {S : Int → Prop} {rt : Option Int} {lf rg pa lf' rg' : Int → Option Int} {lo hi co : Int → Int} {ad kr : Int → Nat} (h : TM X σ T n md ks S rt lf rg pa co ad kr) (hB : BT N S rt lf rg pa lo hi) {q x : Int} (hq : S q) (hx : ¬ S x) (hE : σ E = none) (hz : σ a = some (cZ x))
    (hlx : lf' x = none) (hrx : rg' x = none) (hlo : ∀ z, z ≠ x → z ≠ q → lf' z = lf z) (hro : ∀ z, z ≠ x → z ≠ q → rg' z = rg z)
    (eq : σ' = va_up (va_up σ E (some (cE a (X.2.2.2 1) none none (some (ad q)) 1))) (ad q) (some (cE (kr q) (X.2.2.2 1) ((lf' q).map (fup ad x E)) ((rg' q).map (fup ad x E)) ((pa q).map ad) (co q)))) :
    TM X σ' T n md ks (fun z => z = x ∨ S z) rt lf' rg' (fup pa x (some q)) (fup co x 1) (fup ad x E) (fup kr x a) := by
  obtain ⟨h1, h2, h3⟩ := h
  obtain ⟨b1, b2, b3, b4, b5, b6, b7, b8⟩ := hB
  have hqx : q ≠ x := fun z => hx (z ▸ hq)
  have hEq : E ≠ ad q := fun z => by rw [z, (h2 q hq).1] at hE; cases hE
  have old : ∀ b e, σ b = some e → b ≠ ad q → σ' b = some e := fun b e hb hn => by rw [eq, up_n hn]; exact up_old hE hb
  have hne : ∀ j, S j → j ≠ x := fun j hj z => hx (z ▸ hj)
  refine ⟨?_, fun k hk => ⟨?_, ?_, ?_⟩, fun j k hj hk e => ?_⟩
  · rw [map_fup (fun j hj => hne j (b7 j hj).1)]
    exact old _ _ h1 (tl_ne h1 (h2 q hq).1 (by decide))
  · by_cases z : k = x
    · subst z
      rw [hlx, hrx, fup_s, fup_s, fup_s, fup_s, eq, up_n hEq, up_s]
      show _ = some (cE a (X.2.2.2 1) none none (some (fup ad k E q)) 1)
      rw [fup_n hqx]
    · have hkS : S k := hk.resolve_left z
      rw [fup_n z, fup_n z, fup_n z, fup_n z, map_fup (fun j hj => hne j ((b6 k hkS).1 j hj).1)]
      by_cases z2 : k = q
      · subst z2
        rw [eq, up_s]
      · rw [hlo k z z2, hro k z z2, map_fup (fun j hj => hne j ((b4 k hkS).1 j hj).1), map_fup (fun j hj => hne j ((b5 k hkS).1 j hj).1)]
        exact old _ _ (h2 k hkS).1 (fun u => z2 (h3 _ _ hkS hq u))
  · by_cases z : k = x
    · subst z
      rw [fup_s]
      exact old _ _ hz (tl_ne hz (h2 q hq).1 (by decide))
    · have hkS : S k := hk.resolve_left z
      rw [fup_n z]
      exact old _ _ (h2 k hkS).2.1 (tl_ne (h2 k hkS).2.1 (h2 q hq).1 (by decide))
  · by_cases z : k = x
    · rw [z, fup_s]
      exact Or.inr rfl
    · rw [fup_n z]
      exact (h2 k (hk.resolve_left z)).2.2
  · by_cases z : j = x
    · by_cases z2 : k = x
      · rw [z, z2]
      · have hkS : S k := hk.resolve_left z2
        rw [z, fup_s, fup_n z2] at e
        have := (h2 k hkS).1
        rw [← e, hE] at this
        cases this
    · have hjS : S j := hj.resolve_left z
      by_cases z2 : k = x
      · rw [z2, fup_s, fup_n z] at e
        have := (h2 j hjS).1
        rw [e, hE] at this
        cases this
      · rw [fup_n z, fup_n z2] at e
        exact h3 j k hjS (hk.resolve_left z2) e
theorem TM.size {X : tl_X} {σ σ' : tl_H} {T : Nat} {n md n' md' : Int} {ks : Option Nat} {S : Int → Prop} {rt : Option Int} {lf rg pa : Int → Option Int} {co : Int → Int} {ad kr : Int → Nat} (h : TM X σ T n md ks S rt lf rg pa co ad kr) (eq : σ' = va_up σ T (some (cT (rt.map ad) n' md' ks))) : TM X σ' T n' md' ks S rt lf rg pa co ad kr :=
  ⟨by rw [eq, up_s], fun k hk => ⟨by rw [eq, up_n (tl_ne (h.2.1 k hk).1 h.1 (by decide))]; exact (h.2.1 k hk).1, by rw [eq, up_n (tl_ne (h.2.1 k hk).2.1 h.1 (by decide))]; exact (h.2.1 k hk).2.1, (h.2.1 k hk).2.2⟩, h.2.2⟩
/-- the first entry -/
theorem BT.one {N x : Int} (h : -N < x) (h2 : x < N) : BT N (fun z => z = x) (some x) (fun _ => none) (fun _ => none) (fun _ => none) (fun _ => -N) (fun _ => N) := by
  unfold BT
  refine ⟨?_, ?_, ?_, ?_, ?_, ?_, ?_, ?_⟩ <;> grind
