/-! TREEMAP: the first entry, the next one (printed by gen_tree3.py) -/
set_option maxRecDepth 100000
theorem gf_J21_101_13 {p : Program} {l : Launch} {e : Env} {R : Room} {s : State} {m : MethodId} {args : Array Value} {below : List Frame} {meth : Method} {c : Code} {H : Heap} {locs : List Loc} {cells slots : Nat} {Q : State → Prop} {cc : ByteArray} {pc : Nat} {ls : Array Slot} {rest : List Value} {X : tl_X} {σ : tl_H} {a : Nat} {fs : List Value} {v : Value} (C : tl_C X p s m args c cc RJ21) (hS : tl_S X s σ H locs) (he : σ a = some (oO 13 fs)) (hv : fs[3]? = some v) (hdg : decode cc pc = .ok (.getfield 101, 3)) (kk : W p l e R s m args below meth c H locs cells slots Q (F0 m (pc + 3) ls (v :: rest))) : W p l e R s m args below meth c H locs cells slots Q (F0 m pc ls (.ref a :: rest)) :=
  h_get (ref := "java/util/TreeMap") C hS in_J21 rfl 3 (by decide) q419 (fun _ h => h) he hv hdg kk
set_option maxHeartbeats 4000000 in
theorem m_first (l : Launch) (X : tl_X) (σ : tl_H) (T : Nat) (n md : Int) (ks : Option Nat) (N : Int) (S : Int → Prop) (rt : Option Int) (lf rg pa : Int → Option Int) (lo hi co : Int → Int) (ad kr : Int → Nat) (hT : TM X σ T n md ks S rt lf rg pa co ad kr) (hB : BT N S rt lf rg pa lo hi) (k0 : Int) (hk0 : rt = some k0) (hN : ∀ j, S j → -N < j) : tl_Met l X yJ21_getFirstEntry cJ21_getFirstEntry 2 ((Option.some (FieldType.object "java/util/TreeMap$Entry"))) 1 (0) (0) [.ref (T)] σ (tl_Qq X (fun r σ' => (∃ k : Int, S k ∧ (∀ j, S j → k ≤ j) ∧ r = some (ad k)) ∧ σ = σ')) := by
  obtain ⟨hT0, hE, hI⟩ := hT
  have fT : σ T = some (oO 13 [.null, .null, .null, .ref (ad k0), .int (iI n), .int (iI md), .null, va_rf ks, .null]) := by rw [hT0, hk0]; rfl
  refine tl_start (by decide) (Nat.le_of_ble_eq_true rfl) (fun p e s m below meth c ls C hr hml hlk hnm hS hl => ?_)
  have hl : lv_has ls 2 [(0, .ref (T))] := hl
  refine lv_aload_n C.1 C.2.1 dJ21_getFirstEntry_0 rfl (lv_at hl 0 rfl) ?_
  refine gf_J21_101_13 C hS fT rfl dJ21_getFirstEntry_1 ?_
  refine lv_astore_n (lv' := [(1, .ref (ad k0)), (0, .ref (T))]) C.1 C.2.1 dJ21_getFirstEntry_4 rfl hl (by decide) rfl (fun ls hl => ?_)
  refine lv_aload_n C.1 C.2.1 dJ21_getFirstEntry_5 rfl (lv_at hl 0 rfl) ?_
  refine lv_ifnull C.1 C.2.1 dJ21_getFirstEntry_6 ?_
  have loop_1 : ∀ (n_2 : Nat) (az : Nat) (kz : Int), S kz ∧ az = ad kz ∧ lo kz = -N → hi kz - lo kz < (n_2 : Int) → ∀ (H : Heap) (locs : List Loc) (ls : Array Slot), tl_S X s σ H locs → lv_has ls 2 [(1, .ref (az)), (0, .ref (T))] → W p l e (tl_rm 1 (0) (0)) s m ([.ref (T)] : List Value).toArray below meth c H locs (0) (0) (MQ below (tl_Qq X (fun r σ' => (∃ k : Int, S k ∧ (∀ j, S j → k ≤ j) ∧ r = some (ad k)) ∧ σ = σ')) ([.ref (T)] : List Value).toArray s (0) (0) (tl_A X)) (F0 m 9 ls []) := by
    intro n_2
    induction n_2 with
    | zero => intro az kz hinv hms; have := hB.1 kz hinv.1; omega
    | succ n_2 ih_3 =>
      intro az kz hinv hms_4  H locs ls hS hl
      obtain ⟨sk, haz, hlo⟩ := hinv
      have fz_5 : σ (az) = some (oO 16 [.ref (kr kz), .ref (X.2.2.2 1), va_rf ((lf kz).map ad), va_rf ((rg kz).map ad), va_rf ((pa kz).map ad), .int (iI (co kz))]) := by rw [haz]; exact (hE kz sk).1
      cases hj : lf kz with
      | none =>
        have he_6 : σ (az) = some (oO 16 [.ref (kr kz), .ref (X.2.2.2 1), .null, va_rf ((rg kz).map ad), va_rf ((pa kz).map ad), .int (iI (co kz))]) := by have u := fz_5; rw [hj] at u; exact u
        refine lv_aload_n C.1 C.2.1 dJ21_getFirstEntry_9 rfl (lv_at hl 0 rfl) ?_
        refine gf_J21_111_16 C hS he_6 rfl dJ21_getFirstEntry_10 ?_
        refine lv_ifnullN (tgt := 24) C.1 C.2.1 dJ21_getFirstEntry_13 (by decide) ?_
        refine lv_aload_n C.1 C.2.1 dJ21_getFirstEntry_24 rfl (lv_at hl 0 rfl) ?_
        exact r_q (v := (some (az))) C hr (by first | exact Or.inl ⟨_, rfl⟩ | exact Or.inr ⟨_, rfl⟩) hlk hS ⟨⟨kz, sk, (fun j sj => Int.not_lt.mp fun q => (hB.2.2.2.1 kz sk).2 hj j sj (by have := hB.1 j sj; have := (hB.2.1 j sj).1; omega) q), by rw [haz]⟩, rfl⟩ dJ21_getFirstEntry_25
      | some j =>
        have he_7 : σ (az) = some (oO 16 [.ref (kr kz), .ref (X.2.2.2 1), .ref (ad j), va_rf ((rg kz).map ad), va_rf ((pa kz).map ad), .int (iI (co kz))]) := by have u := fz_5; rw [hj] at u; exact u
        obtain ⟨sj, pj, lj, hj⟩ := (hB.2.2.2.1 kz sk).1 j hj
        have bj := hB.1 j sj
        have bk := hB.1 kz sk
        refine lv_aload_n C.1 C.2.1 dJ21_getFirstEntry_9 rfl (lv_at hl 0 rfl) ?_
        refine gf_J21_111_16 C hS he_7 rfl dJ21_getFirstEntry_10 ?_
        refine lv_ifnull C.1 C.2.1 dJ21_getFirstEntry_13 ?_
        refine lv_aload_n C.1 C.2.1 dJ21_getFirstEntry_16 rfl (lv_at hl 0 rfl) ?_
        refine gf_J21_111_16 C hS he_7 rfl dJ21_getFirstEntry_17 ?_
        refine lv_astore_n (lv' := [(1, .ref (ad j)), (0, .ref (T))]) C.1 C.2.1 dJ21_getFirstEntry_20 rfl hl (by decide) rfl (fun ls hl => ?_)
        refine lv_goto (tgt := 9) C.1 C.2.1 dJ21_getFirstEntry_21 (by decide) ?_
        exact ih_3 (ad j) j ⟨sj, rfl, by omega⟩ (by omega) _ _ _ hS (lv_sub hl [0, 1] rfl)
  exact loop_1 ((hi k0 - lo k0).toNat + 1) (ad k0) k0 ⟨((hB.2.2.2.2.2.2.1 k0 hk0).1), rfl, (hB.2.2.2.2.2.2.1 k0 hk0).2.2.1⟩ (by omega) _ _ _ hS (lv_sub hl [0, 1] rfl)

set_option maxHeartbeats 4000000 in
theorem m_succ (l : Launch) (X : tl_X) (σ : tl_H) (T : Nat) (n md : Int) (ks : Option Nat) (N : Int) (S : Int → Prop) (rt : Option Int) (lf rg pa : Int → Option Int) (lo hi co : Int → Int) (ad kr : Int → Nat) (hT : TM X σ T n md ks S rt lf rg pa co ad kr) (hB : BT N S rt lf rg pa lo hi) (x : Int) (hx : S x) (hN : ∀ j, S j → j < N) : tl_Met l X yJ21_successor cJ21_successor 3 ((Option.some (FieldType.object "java/util/TreeMap$Entry"))) 1 (0) (0) [.ref (ad x)] σ (tl_Qq X (fun r σ' => ((∃ k : Int, S k ∧ x < k ∧ (∀ j, S j → x < j → k ≤ j) ∧ r = some (ad k)) ∨ ((∀ j, S j → j ≤ x) ∧ r = none)) ∧ σ = σ')) := by
  obtain ⟨hT0, hE, hI⟩ := hT
  have fx : σ (ad x) = some (oO 16 [.ref (kr x), .ref (X.2.2.2 1), va_rf ((lf x).map ad), va_rf ((rg x).map ad), va_rf ((pa x).map ad), .int (iI (co x))]) := (hE x hx).1
  refine tl_start (by decide) (Nat.le_of_ble_eq_true rfl) (fun p e s m below meth c ls C hr hml hlk hnm hS hl => ?_)
  have hl : lv_has ls 3 [(0, .ref (ad x))] := hl
  refine lv_aload_n C.1 C.2.1 dJ21_successor_0 rfl (lv_at hl 0 rfl) ?_
  refine lv_ifnonnull (tgt := 6) C.1 C.2.1 dJ21_successor_1 (by decide) ?_
  cases hy : rg x with
  | none =>
    have he_1 : σ (ad x) = some (oO 16 [.ref (kr x), .ref (X.2.2.2 1), va_rf ((lf x).map ad), .null, va_rf ((pa x).map ad), .int (iI (co x))]) := by have u := fx; rw [hy] at u; exact u
    refine lv_aload_n C.1 C.2.1 dJ21_successor_6 rfl (lv_at hl 0 rfl) ?_
    refine gf_J21_114_16 C hS he_1 rfl dJ21_successor_7 ?_
    refine lv_ifnullN (tgt := 35) C.1 C.2.1 dJ21_successor_10 (by decide) ?_
    refine lv_aload_n C.1 C.2.1 dJ21_successor_35 rfl (lv_at hl 0 rfl) ?_
    refine gf_J21_124_16 C hS he_1 rfl dJ21_successor_36 ?_
    refine vq_astore_n (lv' := [(1, va_rf ((pa x).map ad)), (0, .ref (ad x))]) C.1 C.2.1 dJ21_successor_39 rfl hl (by decide) rfl (fun ls hl => ?_)
    refine lv_aload_n C.1 C.2.1 dJ21_successor_40 rfl (lv_at hl 1 rfl) ?_
    refine lv_astore_n (lv' := [(2, .ref (ad x)), (1, va_rf ((pa x).map ad)), (0, .ref (ad x))]) C.1 C.2.1 dJ21_successor_41 rfl hl (by decide) (by simp [tl_cat]) (fun ls hl => ?_)
    have loop_2 : ∀ (n_3 : Nat) (az : Nat) (kz : Int), S kz ∧ az = ad kz ∧ hi kz = hi x → 2 * N - (hi kz - lo kz) < (n_3 : Int) → ∀ (H : Heap) (locs : List Loc) (ls : Array Slot), tl_S X s σ H locs → lv_has ls 3 [(2, .ref (az)), (1, va_rf ((pa kz).map ad)), (0, .ref (ad x))] → W p l e (tl_rm 1 (0) (0)) s m ([.ref (ad x)] : List Value).toArray below meth c H locs (0) (0) (MQ below (tl_Qq X (fun r σ' => ((∃ k : Int, S k ∧ x < k ∧ (∀ j, S j → x < j → k ≤ j) ∧ r = some (ad k)) ∨ ((∀ j, S j → j ≤ x) ∧ r = none)) ∧ σ = σ')) ([.ref (ad x)] : List Value).toArray s (0) (0) (tl_A X)) (F0 m 42 ls []) := by
      intro n_3
      induction n_3 with
      | zero => intro az kz hinv hms; have := hB.1 kz hinv.1; omega
      | succ n_3 ih_4 =>
        intro az kz hinv hms_5  H locs ls hS hl
        obtain ⟨sk, haz, hhi⟩ := hinv
        cases hq : pa kz with
        | none =>
          have hl : lv_has ls 3 [(2, .ref (az)), (1, .null), (0, .ref (ad x))] := by have u := hl; rw [hq] at u; exact u
          refine lv_aload_nN C.1 C.2.1 dJ21_successor_42 rfl (lv_at hl 1 rfl) ?_
          refine lv_ifnullN (tgt := 64) C.1 C.2.1 dJ21_successor_43 (by decide) ?_
          refine lv_aload_nN C.1 C.2.1 dJ21_successor_64 rfl (lv_at hl 1 rfl) ?_
          exact r_q (v := none) C hr (by first | exact Or.inl ⟨_, rfl⟩ | exact Or.inr ⟨_, rfl⟩) hlk hS ⟨Or.inr ⟨(fun j sj => Int.not_lt.mp fun u => (hB.2.2.2.2.1 x hx).2 hy j sj u (by have h7 := hB.2.2.2.2.2.2.1 kz ((hB.2.2.2.2.2.1 kz sk).2 hq); have := hN j sj; omega)), rfl⟩, rfl⟩ dJ21_successor_65
        | some q =>
          have hl : lv_has ls 3 [(2, .ref (az)), (1, .ref (ad q)), (0, .ref (ad x))] := by have u := hl; rw [hq] at u; exact u
          obtain ⟨sq, cq⟩ := (hB.2.2.2.2.2.1 kz sk).1 q hq
          have bq := hB.1 q sq
          have bk := hB.1 kz sk
          have fz_6 : σ (ad q) = some (oO 16 [.ref (kr q), .ref (X.2.2.2 1), va_rf ((lf q).map ad), va_rf ((rg q).map ad), va_rf ((pa q).map ad), .int (iI (co q))]) := by exact (hE q sq).1
          refine lv_aload_n C.1 C.2.1 dJ21_successor_42 rfl (lv_at hl 1 rfl) ?_
          refine lv_ifnull C.1 C.2.1 dJ21_successor_43 ?_
          refine lv_aload_n C.1 C.2.1 dJ21_successor_46 rfl (lv_at hl 0 rfl) ?_
          refine lv_aload_n C.1 C.2.1 dJ21_successor_47 rfl (lv_at hl 1 rfl) ?_
          refine gf_J21_114_16 C hS fz_6 rfl dJ21_successor_48 ?_
          refine lv_acmp_ne (tgt := 64) (rx := (some (az))) (ry := ((rg q).map ad)) C.1 C.2.1 dJ21_successor_51 (by decide) (fun hc_7 => ?_) (fun hc_7 => ?_)
          · skip
            refine lv_aload_n C.1 C.2.1 dJ21_successor_64 rfl (lv_at hl 1 rfl) ?_
            exact r_q (v := (some (ad q))) C hr (by first | exact Or.inl ⟨_, rfl⟩ | exact Or.inr ⟨_, rfl⟩) hlk hS ⟨Or.inl ⟨q, sq, by have h9 : lf q = some kz := cq.resolve_right (fun u => hc_7 (by rw [u, haz]; rfl)); have := (hB.2.2.2.1 q sq).1 kz h9; have := hB.1 x hx; omega, (fun j sj hj2 => Int.not_lt.mp fun u => (hB.2.2.2.2.1 x hx).2 hy j sj hj2 (by have h9 : lf q = some kz := cq.resolve_right (fun u => hc_7 (by rw [u, haz]; rfl)); have := (hB.2.2.2.1 q sq).1 kz h9; omega)), rfl⟩, rfl⟩ dJ21_successor_65
          · skip
            have hrq : rg q = some kz := by obtain ⟨u, u1, u2⟩ := Option.map_eq_some_iff.mp hc_7.symm; rw [u1, hI _ _ ((hB.2.2.2.2.1 q sq).1 u u1).1 sk (u2.trans haz)]
            obtain ⟨-, -, vlo, vhi⟩ := (hB.2.2.2.2.1 q sq).1 kz hrq
            refine lv_aload_n C.1 C.2.1 dJ21_successor_54 rfl (lv_at hl 1 rfl) ?_
            refine lv_astore_n (lv' := [(2, .ref (ad q)), (1, .ref (ad q)), (0, .ref (ad x))]) C.1 C.2.1 dJ21_successor_55 rfl hl (by decide) rfl (fun ls hl => ?_)
            refine lv_aload_n C.1 C.2.1 dJ21_successor_56 rfl (lv_at hl 1 rfl) ?_
            refine gf_J21_124_16 C hS fz_6 rfl dJ21_successor_57 ?_
            refine vq_astore_n (lv' := [(1, va_rf ((pa q).map ad)), (2, .ref (ad q)), (0, .ref (ad x))]) C.1 C.2.1 dJ21_successor_60 rfl hl (by decide) rfl (fun ls hl => ?_)
            refine lv_goto (tgt := 42) C.1 C.2.1 dJ21_successor_61 (by decide) ?_
            exact ih_4 (ad q) q ⟨sq, rfl, by omega⟩ (by omega) _ _ _ hS (lv_sub hl [1, 0, 2] rfl)
    exact loop_2 ((2 * N - (hi x - lo x)).toNat + 1) (ad x) x ⟨hx, rfl, rfl⟩ (by omega) _ _ _ hS (lv_sub hl [0, 1, 2] rfl)
  | some y =>
    have he_8 : σ (ad x) = some (oO 16 [.ref (kr x), .ref (X.2.2.2 1), va_rf ((lf x).map ad), .ref (ad y), va_rf ((pa x).map ad), .int (iI (co x))]) := by have u := fx; rw [hy] at u; exact u
    obtain ⟨sy, py, ly, hiy⟩ := (hB.2.2.2.2.1 x hx).1 y hy
    refine lv_aload_n C.1 C.2.1 dJ21_successor_6 rfl (lv_at hl 0 rfl) ?_
    refine gf_J21_114_16 C hS he_8 rfl dJ21_successor_7 ?_
    refine lv_ifnull C.1 C.2.1 dJ21_successor_10 ?_
    refine lv_aload_n C.1 C.2.1 dJ21_successor_13 rfl (lv_at hl 0 rfl) ?_
    refine gf_J21_114_16 C hS he_8 rfl dJ21_successor_14 ?_
    refine lv_astore_n (lv' := [(1, .ref (ad y)), (0, .ref (ad x))]) C.1 C.2.1 dJ21_successor_17 rfl hl (by decide) rfl (fun ls hl => ?_)
    have loop_9 : ∀ (n_10 : Nat) (az : Nat) (kz : Int), S kz ∧ az = ad kz ∧ lo kz = x → hi kz - lo kz < (n_10 : Int) → ∀ (H : Heap) (locs : List Loc) (ls : Array Slot), tl_S X s σ H locs → lv_has ls 3 [(1, .ref (az)), (0, .ref (ad x))] → W p l e (tl_rm 1 (0) (0)) s m ([.ref (ad x)] : List Value).toArray below meth c H locs (0) (0) (MQ below (tl_Qq X (fun r σ' => ((∃ k : Int, S k ∧ x < k ∧ (∀ j, S j → x < j → k ≤ j) ∧ r = some (ad k)) ∨ ((∀ j, S j → j ≤ x) ∧ r = none)) ∧ σ = σ')) ([.ref (ad x)] : List Value).toArray s (0) (0) (tl_A X)) (F0 m 18 ls []) := by
      intro n_10
      induction n_10 with
      | zero => intro az kz hinv hms; have := hB.1 kz hinv.1; omega
      | succ n_10 ih_11 =>
        intro az kz hinv hms_12  H locs ls hS hl
        obtain ⟨sk, haz, hlo⟩ := hinv
        have fz_13 : σ (az) = some (oO 16 [.ref (kr kz), .ref (X.2.2.2 1), va_rf ((lf kz).map ad), va_rf ((rg kz).map ad), va_rf ((pa kz).map ad), .int (iI (co kz))]) := by rw [haz]; exact (hE kz sk).1
        cases hj : lf kz with
        | none =>
          have he_14 : σ (az) = some (oO 16 [.ref (kr kz), .ref (X.2.2.2 1), .null, va_rf ((rg kz).map ad), va_rf ((pa kz).map ad), .int (iI (co kz))]) := by have u := fz_13; rw [hj] at u; exact u
          refine lv_aload_n C.1 C.2.1 dJ21_successor_18 rfl (lv_at hl 0 rfl) ?_
          refine gf_J21_111_16 C hS he_14 rfl dJ21_successor_19 ?_
          refine lv_ifnullN (tgt := 33) C.1 C.2.1 dJ21_successor_22 (by decide) ?_
          refine lv_aload_n C.1 C.2.1 dJ21_successor_33 rfl (lv_at hl 0 rfl) ?_
          exact r_q (v := (some (az))) C hr (by first | exact Or.inl ⟨_, rfl⟩ | exact Or.inr ⟨_, rfl⟩) hlk hS ⟨Or.inl ⟨kz, sk, by have := hB.1 kz sk; omega, (fun j sj hj2 => Int.not_lt.mp fun q => (hB.2.2.2.1 kz sk).2 hj j sj (by omega) q), by rw [haz]⟩, rfl⟩ dJ21_successor_34
        | some j =>
          have he_15 : σ (az) = some (oO 16 [.ref (kr kz), .ref (X.2.2.2 1), .ref (ad j), va_rf ((rg kz).map ad), va_rf ((pa kz).map ad), .int (iI (co kz))]) := by have u := fz_13; rw [hj] at u; exact u
          obtain ⟨sj, pj, lj, hij⟩ := (hB.2.2.2.1 kz sk).1 j hj
          have bj := hB.1 j sj
          have bk := hB.1 kz sk
          refine lv_aload_n C.1 C.2.1 dJ21_successor_18 rfl (lv_at hl 0 rfl) ?_
          refine gf_J21_111_16 C hS he_15 rfl dJ21_successor_19 ?_
          refine lv_ifnull C.1 C.2.1 dJ21_successor_22 ?_
          refine lv_aload_n C.1 C.2.1 dJ21_successor_25 rfl (lv_at hl 0 rfl) ?_
          refine gf_J21_111_16 C hS he_15 rfl dJ21_successor_26 ?_
          refine lv_astore_n (lv' := [(1, .ref (ad j)), (0, .ref (ad x))]) C.1 C.2.1 dJ21_successor_29 rfl hl (by decide) rfl (fun ls hl => ?_)
          refine lv_goto (tgt := 18) C.1 C.2.1 dJ21_successor_30 (by decide) ?_
          exact ih_11 (ad j) j ⟨sj, rfl, by omega⟩ (by omega) _ _ _ hS (lv_sub hl [0, 1] rfl)
    exact loop_9 ((hi y - lo y).toNat + 1) (ad y) y ⟨sy, rfl, ly⟩ (by omega) _ _ _ hS (lv_sub hl [0, 1] rfl)

