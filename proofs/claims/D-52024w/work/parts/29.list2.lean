/-! ARRAYLIST: its changes; its iterator (printed by gen_list2.py) -/
set_option maxRecDepth 100000
theorem tl_ob.sub {σ σ1 : tl_H} {v : Nat} (hs : ∀ ci vs, σ v = some (oO ci vs) → ∃ vs', σ1 v = some (oO ci vs')) (h : tl_ob σ v) : tl_ob σ1 v := by
  obtain ⟨ci, vs, q, h1, h2, h3⟩ := h
  obtain ⟨vs', h⟩ := hs ci vs h1
  exact ⟨ci, vs', q, h, h2, h3⟩
theorem tl_ob.upO {σ σ1 : tl_H} {a ci v : Nat} {fs fs' : List Value} (eq : σ1 = va_up σ a (some (oO ci fs'))) (ha : σ a = some (oO ci fs)) (h : tl_ob σ v) : tl_ob σ1 v := by
  refine h.sub (fun c vs hv => ?_)
  rw [eq]
  by_cases z : v = a
  · subst z
    rw [ha] at hv
    cases hv
    exact ⟨fs', up_s⟩
  · exact ⟨vs, by rw [up_n z]; exact hv⟩
theorem tl_ob.gr {σ σ1 : tl_H} {L q ci v : Nat} {e : va_E} {fs fs' : List Value} (eq : σ1 = va_up (va_up σ q (some e)) L (some (oO ci fs'))) (hL : σ L = some (oO ci fs)) (hq : σ q = none) (h : tl_ob σ v) : tl_ob σ1 v :=
  (h.up (σ1 := va_up σ q (some e)) rfl (Or.inl hq)).upO eq (fs := fs) (up_old hq hL)
theorem AO.upO {σ σ1 : tl_H} {a ci : Nat} {n : Int} {f : Int → Nat} {fs fs' : List Value} (eq : σ1 = va_up σ a (some (oO ci fs'))) (ha : σ a = some (oO ci fs)) (h : AO σ n f) : AO σ1 n f := fun i h0 h1 => (h i h0 h1).upO eq ha
theorem AO.gr {σ σ1 : tl_H} {L q ci : Nat} {n : Int} {f : Int → Nat} {e : va_E} {fs fs' : List Value} (eq : σ1 = va_up (va_up σ q (some e)) L (some (oO ci fs'))) (hL : σ L = some (oO ci fs)) (hq : σ q = none) (h : AO σ n f) : AO σ1 n f := fun i h0 h1 => (h i h0 h1).gr eq hL hq
theorem al_app {g : Nat → Option Nat} {n : Int} {f : Int → Nat} {v : Nat} (hn : 0 ≤ n) (hg : ∀ i : Int, 0 ≤ i → i < n → g i.toNat = some (f i)) : ∀ i : Int, 0 ≤ i → i < n + 1 → va_up g n.toNat (some v) i.toNat = some (if i = n then v else f i) := by
  intro i h0 h1
  by_cases h : i = n
  · subst h
    simp [va_up]
  · rw [up_n (by omega), if_neg h]
    exact hg i h0 (by omega)
theorem al_ins {g : Nat → Option Nat} {n k : Int} {f : Int → Nat} {v : Nat} (hk : 0 ≤ k ∧ k ≤ n) (hg : ∀ i : Int, 0 ≤ i → i < n → g i.toNat = some (f i)) : ∀ i : Int, 0 ≤ i → i < n + 1 → va_up (va_cpy g g k.toNat (k + 1).toNat (n - k).toNat) k.toNat (some v) i.toNat = some (if i < k then f i else if i = k then v else f (i - 1)) := by
  intro i h0 h1
  by_cases h : i = k
  · subst h
    simp [va_up]
  · rw [up_n (by omega)]
    show (if _ then _ else _) = _
    by_cases h2 : i < k
    · rw [if_neg (by omega), if_pos h2]
      exact hg i h0 (by omega)
    · rw [if_pos (by omega), if_neg h2, if_neg h]
      have := hg (i - 1) (by omega) (by omega)
      rw [← this]
      congr 1
      omega
theorem al_del {g : Nat → Option Nat} {n k : Int} {f : Int → Nat} {w : Option Nat} (hk : 0 ≤ k ∧ k < n) (hg : ∀ i : Int, 0 ≤ i → i < n → g i.toNat = some (f i)) : ∀ i : Int, 0 ≤ i → i < n - 1 → va_up (va_cpy g g (k + 1).toNat k.toNat (n - 1 - k).toNat) (n - 1).toNat w i.toNat = some (if i < k then f i else f (i + 1)) := by
  intro i h0 h1
  rw [up_n (by omega)]
  show (if _ then _ else _) = _
  by_cases h2 : i < k
  · rw [if_neg (by omega), if_pos h2]
    exact hg i h0 (by omega)
  · rw [if_pos (by omega), if_neg h2]
    have := hg (i + 1) (by omega) (by omega)
    rw [← this]
    congr 1
    omega
theorem al_del0 {g : Nat → Option Nat} {n k : Int} {f : Int → Nat} {w : Option Nat} (hk : 0 ≤ k ∧ n - 1 ≤ k) (hg : ∀ i : Int, 0 ≤ i → i < n → g i.toNat = some (f i)) : ∀ i : Int, 0 ≤ i → i < n - 1 → va_up g (n - 1).toNat w i.toNat = some (if i < k then f i else f (i + 1)) := by
  intro i h0 h1
  rw [up_n (by omega), if_pos (by omega)]
  exact hg i h0 (by omega)
theorem ALF.step {X : tl_X} {σ σ1 σ' : tl_H} {L arr arr' : Nat} {e : va_E} (eq : σ1 = va_up σ L (some e)) (h : ALF X σ1 σ' L arr arr') : ALF X σ σ' L arr arr' := by
  obtain ⟨h1, h2, h3⟩ := h
  refine ⟨h1, ?_, fun b e hb hL hA => h3 b e (by rw [eq, up_n hL]; exact hb) hL hA⟩
  rcases h2 with h2 | h2
  · exact Or.inl h2
  · refine Or.inr ?_
    rw [eq] at h2
    by_cases z : arr' = L
    · rw [z, up_s] at h2; cases h2
    · rw [up_n z] at h2; exact h2
theorem gp_J2_48_9 {p : Program} {l : Launch} {e : Env} {R : Room} {s : State} {m : MethodId} {args : Array Value} {below : List Frame} {meth : Method} {c : Code} {H : Heap} {locs : List Loc} {cells slots : Nat} {Q : State → Prop} {cc : ByteArray} {pc : Nat} {ls : Array Slot} {rest : List Value} {X : tl_X} {σ : tl_H} {a : Nat} {fs : List Value} {v : Value} (C : tl_C X p s m args c cc RJ2) (hS : tl_S X s σ H locs) (he : σ a = some (oO 9 fs)) (hn : narrow (tyJ2 2) v = v) (hfit : fits (tyJ2 2) v = true) (hl : 2 < fs.length) (hdg : decode cc pc = .ok (.putfield 48, 3)) (kk : ∀ (H1 : Heap) (locs1 : List Loc), tl_S X s (va_up σ a (some (oO 9 (fs.set 2 v)))) H1 locs1 → W p l e R s m args below meth c H1 locs1 cells slots Q (F0 m (pc + 3) ls rest)) : W p l e R s m args below meth c H locs cells slots Q (F0 m pc ls (v :: .ref a :: rest)) :=
  h_put (ref := "java/util/ArrayList") C hS in_J2 tyJ2 tyJ2_ok nmJ2 rfl 2 (by decide) q121 (fun _ h => h) rfl (by decide) he hn hfit hl hdg kk
set_option maxHeartbeats 4000000 in
theorem m_AL_add2 (l : Launch) (X : tl_X) (σ : tl_H) (L : Nat) (md n : Int) (f : Int → Nat) (arr cap : Nat) (hAL : AL X σ L md n f arr cap) (v : Nat) (hv : tl_ob σ v) (hO : AO σ n f) (hn6 : n ≤ 600) : tl_Met l X yJ2_add_2 cJ2_add_2 4 ((Option.none : Option FieldType)) 5 (1) (1000) [.ref (L), .ref (v), .ref (arr), .int (iI (n))] σ (tl_Qv X (fun σ' => ∃ arr' cap' : Nat, AL X σ' L md (n + 1) (fun i => if i = n then v else f i) arr' cap' ∧ ALF X σ σ' L arr arr')) := by
  obtain ⟨hL, ⟨g, hA, hg⟩, hn0, hnc, hc, hz⟩ := hAL
  refine tl_start (by decide) (Nat.le_of_ble_eq_true rfl) (fun p e s m below meth c ls C hr hml hlk hnm hS hl => ?_)
  have hl : lv_has ls 4 [(0, .ref (L)), (1, .ref (v)), (2, .ref (arr)), (3, .int (iI (n)))] := hl
  refine lv_iload_n C.1 C.2.1 dJ2_add_2_0 rfl (lv_at hl 3 rfl) ?_
  refine lv_aload_n C.1 C.2.1 dJ2_add_2_1 rfl (lv_at hl 2 rfl) ?_
  refine h_alenQ C hS hA dJ2_add_2_2 ?_
  refine ti_icmp_ne (tgt := 11) C.1 C.2.1 dJ2_add_2_3 (by decide) ⟨by omega, by omega⟩ ⟨by omega, by omega⟩ (fun hc_1 => ?_) (fun hc_1 => ?_)
  · skip
    refine lv_aload_n C.1 C.2.1 dJ2_add_2_11 rfl (lv_at hl 2 rfl) ?_
    refine lv_iload_n C.1 C.2.1 dJ2_add_2_12 rfl (lv_at hl 3 rfl) ?_
    refine lv_aload_n C.1 C.2.1 dJ2_add_2_13 rfl (lv_at hl 1 rfl) ?_
    refine h_aastO C hS hA hv (by omega) (by omega) (by omega) dJ2_add_2_14 (fun H locs hS => ?_)
    obtain ⟨σ_2, eσ_2⟩ : ∃ z, z = va_up σ (arr) (some (oQ (X.2.2.1 3) cap (va_up g (n : Int).toNat (some (v))))) := ⟨_, rfl⟩
    rw [← eσ_2] at hS
    have he_3 := up_kp eσ_2 (tl_neA hL hA) hL
    have he_4 : σ_2 (arr) = some (oQ (X.2.2.1 3) cap (va_up g (n : Int).toNat (some (v)))) := by rw [eσ_2]; exact up_s
    refine lv_aload_n C.1 C.2.1 dJ2_add_2_15 rfl (lv_at hl 0 rfl) ?_
    refine lv_iload_n C.1 C.2.1 dJ2_add_2_16 rfl (lv_at hl 3 rfl) ?_
    refine ti_const C.1 C.2.1 dJ2_add_2_17 ?_
    refine ti_iadd C.1 C.2.1 dJ2_add_2_18 ?_
    refine gp_J2_48_9 C hS he_3 rfl rfl (Nat.le_of_ble_eq_true rfl) dJ2_add_2_19 (fun H locs hS => ?_)
    obtain ⟨σ_5, eσ_5⟩ : ∃ z, z = va_up σ_2 (L) (some (oO 9 [.int (iI (md)), .ref (arr), .int (iI ((n + 1)))])) := ⟨_, rfl⟩
    have hS : tl_S X s σ_5 H locs := by rw [eσ_5]; exact hS
    have he_6 : σ_5 (L) = some (oO 9 [.int (iI (md)), .ref (arr), .int (iI ((n + 1)))]) := by rw [eσ_5]; exact up_s
    have he_7 := up_kp eσ_5 (Ne.symm (tl_neA he_3 he_4)) he_4
    refine W.widen (k := 1) (n := 1000) (by omega) (by omega) ?_
    exact r_v C hr hlk hS ⟨arr, cap, ⟨he_6, ⟨_, he_7, al_app hn0 hg⟩, by omega, by omega, by omega, fun z => by exfalso; omega⟩, hS.fix, Or.inl rfl, (fun b e hb h1 h2 => by rw [eσ_5, up_n h1, eσ_2, up_n h2]; exact hb)⟩ dJ2_add_2_22
  · skip
    refine lv_aload_n C.1 C.2.1 dJ2_add_2_6 rfl (lv_at hl 0 rfl) ?_
    refine tl_cq (t_V (n := 0) (ci := 9) C hml hS (m_AL_grow l X σ L (md) n f arr cap ⟨hL, ⟨g, hA, hg⟩, hn0, hnc, hc, hz⟩ (by omega) hn6 hO) q954 q956 qs12 q50 q957 (by decide +kernel) hL rfl rfl hl.1 rfl (Nat.le_of_ble_eq_true rfl) dJ2_add_2_7 ⟨Nat.le_of_ble_eq_true rfl, Nat.le_of_ble_eq_true rfl⟩ ⟨by show 0 + (1) ≤ 1; omega, by show 0 + (1000) ≤ 1000; omega⟩) hS (fun r_8 σ_10 H locs hP_9 hS => ?_)
    obtain ⟨q, cap', h, rfl, hq, hB, hn1, hc1, eh, hh⟩ := hP_9
    have hv := hv.gr eh hL hq
    have hO := hO.gr eh hL hq
    have hqL : q ≠ L := fun z => by rw [z, hL] at hq; cases hq
    have heL : σ_10 L = some (cL (md) q n) := by rw [eh]; exact up_s
    have heq : σ_10 q = some (oQ (X.2.2.1 3) cap' h) := by rw [eh, up_n hqL]; exact up_s
    refine lv_astore_n (lv' := [(2, .ref (q)), (0, .ref (L)), (1, .ref (v)), (3, .int (iI (n)))]) C.1 C.2.1 dJ2_add_2_10 rfl hl (by decide) rfl (fun ls hl => ?_)
    refine lv_aload_n C.1 C.2.1 dJ2_add_2_11 rfl (lv_at hl 0 rfl) ?_
    refine lv_iload_n C.1 C.2.1 dJ2_add_2_12 rfl (lv_at hl 3 rfl) ?_
    refine lv_aload_n C.1 C.2.1 dJ2_add_2_13 rfl (lv_at hl 2 rfl) ?_
    refine h_aastO C hS heq hv (by omega) (by omega) (by omega) dJ2_add_2_14 (fun H locs hS => ?_)
    obtain ⟨σ_11, eσ_11⟩ : ∃ z, z = va_up σ_10 (q) (some (oQ (X.2.2.1 3) cap' (va_up h (n : Int).toNat (some (v))))) := ⟨_, rfl⟩
    rw [← eσ_11] at hS
    have he_12 := up_kp eσ_11 (tl_neA heL heq) heL
    have he_13 : σ_11 (q) = some (oQ (X.2.2.1 3) cap' (va_up h (n : Int).toNat (some (v)))) := by rw [eσ_11]; exact up_s
    refine lv_aload_n C.1 C.2.1 dJ2_add_2_15 rfl (lv_at hl 1 rfl) ?_
    refine lv_iload_n C.1 C.2.1 dJ2_add_2_16 rfl (lv_at hl 3 rfl) ?_
    refine ti_const C.1 C.2.1 dJ2_add_2_17 ?_
    refine ti_iadd C.1 C.2.1 dJ2_add_2_18 ?_
    refine gp_J2_48_9 C hS he_12 rfl rfl (Nat.le_of_ble_eq_true rfl) dJ2_add_2_19 (fun H locs hS => ?_)
    obtain ⟨σ_14, eσ_14⟩ : ∃ z, z = va_up σ_11 (L) (some (oO 9 [.int (iI (md)), .ref (q), .int (iI ((n + 1)))])) := ⟨_, rfl⟩
    have hS : tl_S X s σ_14 H locs := by rw [eσ_14]; exact hS
    have he_15 : σ_14 (L) = some (oO 9 [.int (iI (md)), .ref (q), .int (iI ((n + 1)))]) := by rw [eσ_14]; exact up_s
    have he_16 := up_kp eσ_14 (Ne.symm (tl_neA he_12 he_13)) he_13
    refine W.widen (k := 1) (n := 1000) (by omega) (by omega) ?_
    exact r_v C hr hlk hS ⟨q, cap', ⟨he_15, ⟨_, he_16, al_app hn0 hh⟩, by omega, by omega, by omega, fun z => by exfalso; omega⟩, hS.fix, Or.inr hq, (fun b e hb h1 h2 => by have hbq : b ≠ q := (fun z => by rw [z, hq] at hb; cases hb); rw [eσ_14, up_n h1, eσ_11, up_n hbq, eh, up_n h1, up_n hbq]; exact hb)⟩ dJ2_add_2_22

theorem gf_J2_63_9 {p : Program} {l : Launch} {e : Env} {R : Room} {s : State} {m : MethodId} {args : Array Value} {below : List Frame} {meth : Method} {c : Code} {H : Heap} {locs : List Loc} {cells slots : Nat} {Q : State → Prop} {cc : ByteArray} {pc : Nat} {ls : Array Slot} {rest : List Value} {X : tl_X} {σ : tl_H} {a : Nat} {fs : List Value} {v : Value} (C : tl_C X p s m args c cc RJ2) (hS : tl_S X s σ H locs) (he : σ a = some (oO 9 fs)) (hv : fs[0]? = some v) (hdg : decode cc pc = .ok (.getfield 63, 3)) (kk : W p l e R s m args below meth c H locs cells slots Q (F0 m (pc + 3) ls (v :: rest))) : W p l e R s m args below meth c H locs cells slots Q (F0 m pc ls (.ref a :: rest)) :=
  h_get (ref := "java/util/ArrayList") C hS in_J2 rfl 0 (by decide) q127 (fun x h => u_same (C.2.2.2.1 _ q124) x h) he hv hdg kk
theorem gp_J2_63_9 {p : Program} {l : Launch} {e : Env} {R : Room} {s : State} {m : MethodId} {args : Array Value} {below : List Frame} {meth : Method} {c : Code} {H : Heap} {locs : List Loc} {cells slots : Nat} {Q : State → Prop} {cc : ByteArray} {pc : Nat} {ls : Array Slot} {rest : List Value} {X : tl_X} {σ : tl_H} {a : Nat} {fs : List Value} {v : Value} (C : tl_C X p s m args c cc RJ2) (hS : tl_S X s σ H locs) (he : σ a = some (oO 9 fs)) (hn : narrow (tyJ2 0) v = v) (hfit : fits (tyJ2 0) v = true) (hl : 0 < fs.length) (hdg : decode cc pc = .ok (.putfield 63, 3)) (kk : ∀ (H1 : Heap) (locs1 : List Loc), tl_S X s (va_up σ a (some (oO 9 (fs.set 0 v)))) H1 locs1 → W p l e R s m args below meth c H1 locs1 cells slots Q (F0 m (pc + 3) ls rest)) : W p l e R s m args below meth c H locs cells slots Q (F0 m pc ls (v :: .ref a :: rest)) :=
  h_put (ref := "java/util/ArrayList") C hS in_J2 tyJ2 tyJ2_ok nmJ2 rfl 0 (by decide) q127 (fun x h => u_same (C.2.2.2.1 _ q124) x h) rfl (by decide) he hn hfit hl hdg kk
set_option maxHeartbeats 4000000 in
theorem m_AL_add (l : Launch) (X : tl_X) (σ : tl_H) (L : Nat) (md n : Int) (f : Int → Nat) (arr cap : Nat) (hAL : AL X σ L md n f arr cap) (v : Nat) (hv : tl_ob σ v) (hO : AO σ n f) (hn6 : n ≤ 600) : tl_Met l X yJ2_add cJ2_add 2 ((Option.some FieldType.boolean)) 6 (1) (1000) [.ref (L), .ref (v)] σ (tl_Qi X (fun r σ' => r = iI 1 ∧ ∃ arr' cap' : Nat, AL X σ' L (md + 1) (n + 1) (fun i => if i = n then v else f i) arr' cap' ∧ ALF X σ σ' L arr arr')) := by
  obtain ⟨hL, ⟨g, hA, hg⟩, hn0, hnc, hc, hz⟩ := hAL
  refine tl_start (by decide) (Nat.le_of_ble_eq_true rfl) (fun p e s m below meth c ls C hr hml hlk hnm hS hl => ?_)
  have hl : lv_has ls 2 [(0, .ref (L)), (1, .ref (v))] := hl
  refine lv_aload_n C.1 C.2.1 dJ2_add_0 rfl (lv_at hl 0 rfl) ?_
  refine lv_dup C.1 C.2.1 dJ2_add_1 rfl ?_
  refine gf_J2_63_9 C hS hL rfl dJ2_add_2 ?_
  refine ti_const C.1 C.2.1 dJ2_add_5 ?_
  refine ti_iadd C.1 C.2.1 dJ2_add_6 ?_
  refine gp_J2_63_9 C hS hL rfl rfl (Nat.le_of_ble_eq_true rfl) dJ2_add_7 (fun H locs hS => ?_)
  obtain ⟨σ_1, eσ_1⟩ : ∃ z, z = va_up σ (L) (some (oO 9 [.int (iI ((md + 1))), .ref (arr), .int (iI (n))])) := ⟨_, rfl⟩
  have hS : tl_S X s σ_1 H locs := by rw [eσ_1]; exact hS
  have he_2 : σ_1 (L) = some (oO 9 [.int (iI ((md + 1))), .ref (arr), .int (iI (n))]) := by rw [eσ_1]; exact up_s
  have he_3 := up_kp eσ_1 (Ne.symm (tl_neA hL hA)) hA
  have hv := hv.upO eσ_1 hL
  have hO := hO.upO eσ_1 hL
  refine lv_aload_n C.1 C.2.1 dJ2_add_10 rfl (lv_at hl 0 rfl) ?_
  refine lv_aload_n C.1 C.2.1 dJ2_add_11 rfl (lv_at hl 1 rfl) ?_
  refine lv_aload_n C.1 C.2.1 dJ2_add_12 rfl (lv_at hl 0 rfl) ?_
  refine gf_J2_9_9 C hS he_2 rfl dJ2_add_13 ?_
  refine lv_aload_n C.1 C.2.1 dJ2_add_16 rfl (lv_at hl 0 rfl) ?_
  refine gf_J2_48_9 C hS he_2 rfl dJ2_add_17 ?_
  refine tl_cv (t_V (n := 3) (ci := 9) C hml hS (m_AL_add2 l X σ_1 L (md + 1) n f arr cap ⟨he_2, ⟨g, he_3, hg⟩, hn0, hnc, hc, hz⟩ v hv hO hn6) q950 q952 qs11 q50 q953 (by decide +kernel) he_2 rfl rfl hl.1 rfl (Nat.le_of_ble_eq_true rfl) dJ2_add_20 ⟨Nat.le_of_ble_eq_true rfl, Nat.le_of_ble_eq_true rfl⟩ ⟨by show 0 + (1) ≤ 1; omega, by show 0 + (1000) ≤ 1000; omega⟩) hS (fun σ_6 H locs hP_5 hS => ?_)
  obtain ⟨arr', cap', hA', hF⟩ := hP_5
  refine ti_const C.1 C.2.1 dJ2_add_23 ?_
  refine W.widen (k := 1) (n := 1000) (by omega) (by omega) ?_
  exact r_z (z := 1) C hr hlk hS (by first | exact tb01 _ | omega | decide) ⟨rfl, arr', cap', hA', hF.step eσ_1⟩ dJ2_add_24

set_option maxHeartbeats 4000000 in
theorem m_AL_range (l : Launch) (X : tl_X) (σ : tl_H) (L : Nat) (md n : Int) (f : Int → Nat) (arr cap : Nat) (hAL : AL X σ L md n f arr cap) (k : Int) (hk : 0 ≤ k ∧ k ≤ n) : tl_Met l X yJ2_rangeCheckForAdd cJ2_rangeCheckForAdd 2 ((Option.none : Option FieldType)) 1 (0) (0) [.ref (L), .int (iI (k))] σ (tl_Qv X (fun σ' => σ = σ')) := by
  obtain ⟨hL, ⟨g, hA, hg⟩, hn0, hnc, hc, hz⟩ := hAL
  refine tl_start (by decide) (Nat.le_of_ble_eq_true rfl) (fun p e s m below meth c ls C hr hml hlk hnm hS hl => ?_)
  have hl : lv_has ls 2 [(0, .ref (L)), (1, .int (iI (k)))] := hl
  refine lv_iload_n C.1 C.2.1 dJ2_rangeCheckForAdd_0 rfl (lv_at hl 1 rfl) ?_
  refine lv_aload_n C.1 C.2.1 dJ2_rangeCheckForAdd_1 rfl (lv_at hl 0 rfl) ?_
  refine gf_J2_48_9 C hS hL rfl dJ2_rangeCheckForAdd_2 ?_
  refine ti_icmp_gt (tgt := 12) C.1 C.2.1 dJ2_rangeCheckForAdd_5 (by decide) ⟨by omega, by omega⟩ ⟨by omega, by omega⟩ (fun hc_1 => ?_) (fun hc_1 => ?_)
  · skip
    exfalso; omega
  · skip
    refine lv_iload_n C.1 C.2.1 dJ2_rangeCheckForAdd_8 rfl (lv_at hl 1 rfl) ?_
    refine ti_if_ge (tgt := 25) C.1 C.2.1 dJ2_rangeCheckForAdd_9 (by decide) ⟨by omega, by omega⟩ (fun hc_2 => ?_) (fun hc_2 => ?_)
    · skip
      exact r_v C hr hlk hS rfl dJ2_rangeCheckForAdd_25
    · skip
      exfalso; omega

set_option maxHeartbeats 4000000 in
theorem m_AL_ins (l : Launch) (X : tl_X) (σ : tl_H) (L : Nat) (md n : Int) (f : Int → Nat) (arr cap : Nat) (hAL : AL X σ L md n f arr cap) (v : Nat) (hv : tl_ob σ v) (hO : AO σ n f) (hn6 : n ≤ 600) (k : Int) (hk : 0 ≤ k ∧ k ≤ n) : tl_Met l X yJ2_add_3 cJ2_add_3 5 ((Option.none : Option FieldType)) 6 (1) (1000) [.ref (L), .int (iI (k)), .ref (v)] σ (tl_Qv X (fun σ' => ∃ arr' cap' : Nat, AL X σ' L (md + 1) (n + 1) (fun i => if i < k then f i else if i = k then v else f (i - 1)) arr' cap' ∧ ALF X σ σ' L arr arr')) := by
  obtain ⟨hL, ⟨g, hA, hg⟩, hn0, hnc, hc, hz⟩ := hAL
  refine tl_start (by decide) (Nat.le_of_ble_eq_true rfl) (fun p e s m below meth c ls C hr hml hlk hnm hS hl => ?_)
  have hl : lv_has ls 5 [(0, .ref (L)), (1, .int (iI (k))), (2, .ref (v))] := hl
  refine lv_aload_n C.1 C.2.1 dJ2_add_3_0 rfl (lv_at hl 0 rfl) ?_
  refine lv_iload_n C.1 C.2.1 dJ2_add_3_1 rfl (lv_at hl 1 rfl) ?_
  refine tl_cv (t_V (n := 1) (ci := 9) C hml hS (m_AL_range l X σ L md n f arr cap ⟨hL, ⟨g, hA, hg⟩, hn0, hnc, hc, hz⟩ k hk) q1024 q1026 qs14 q50 q1027 (by decide +kernel) hL rfl rfl hl.1 rfl (Nat.le_of_ble_eq_true rfl) dJ2_add_3_2 ⟨Nat.le_of_ble_eq_true rfl, Nat.le_of_ble_eq_true rfl⟩ ⟨by show 0 + (0) ≤ 1; omega, by show 0 + (0) ≤ 1000; omega⟩) hS (fun σ_3 H locs hP_2 hS => ?_)
  obtain rfl := hP_2
  refine lv_aload_n C.1 C.2.1 dJ2_add_3_5 rfl (lv_at hl 0 rfl) ?_
  refine lv_dup C.1 C.2.1 dJ2_add_3_6 rfl ?_
  refine gf_J2_63_9 C hS hL rfl dJ2_add_3_7 ?_
  refine ti_const C.1 C.2.1 dJ2_add_3_10 ?_
  refine ti_iadd C.1 C.2.1 dJ2_add_3_11 ?_
  refine gp_J2_63_9 C hS hL rfl rfl (Nat.le_of_ble_eq_true rfl) dJ2_add_3_12 (fun H locs hS => ?_)
  obtain ⟨σ_4, eσ_4⟩ : ∃ z, z = va_up σ (L) (some (oO 9 [.int (iI ((md + 1))), .ref (arr), .int (iI (n))])) := ⟨_, rfl⟩
  have hS : tl_S X s σ_4 H locs := by rw [eσ_4]; exact hS
  have he_5 : σ_4 (L) = some (oO 9 [.int (iI ((md + 1))), .ref (arr), .int (iI (n))]) := by rw [eσ_4]; exact up_s
  have he_6 := up_kp eσ_4 (Ne.symm (tl_neA hL hA)) hA
  have hv := hv.upO eσ_4 hL
  have hO := hO.upO eσ_4 hL
  refine lv_aload_n C.1 C.2.1 dJ2_add_3_15 rfl (lv_at hl 0 rfl) ?_
  refine gf_J2_48_9 C hS he_5 rfl dJ2_add_3_16 ?_
  refine lv_dup C.1 C.2.1 dJ2_add_3_19 rfl ?_
  refine lv_istore_n (lv' := [(3, .int (iI (n))), (0, .ref (L)), (1, .int (iI (k))), (2, .ref (v))]) C.1 C.2.1 dJ2_add_3_20 rfl hl (by decide) rfl (fun ls hl => ?_)
  refine lv_aload_n C.1 C.2.1 dJ2_add_3_21 rfl (lv_at hl 1 rfl) ?_
  refine gf_J2_9_9 C hS he_5 rfl dJ2_add_3_22 ?_
  refine lv_dup C.1 C.2.1 dJ2_add_3_25 rfl ?_
  refine lv_astore (lv' := [(4, .ref (arr)), (3, .int (iI (n))), (0, .ref (L)), (1, .int (iI (k))), (2, .ref (v))]) C.1 C.2.1 dJ2_add_3_26 hl (by decide) rfl (fun ls hl => ?_)
  refine h_alenQ C hS he_6 dJ2_add_3_28 ?_
  refine ti_icmp_ne (tgt := 38) C.1 C.2.1 dJ2_add_3_29 (by decide) ⟨by omega, by omega⟩ ⟨by omega, by omega⟩ (fun hc_7 => ?_) (fun hc_7 => ?_)
  · skip
    refine lv_aload C.1 C.2.1 dJ2_add_3_38 (lv_at hl 0 rfl) ?_
    refine lv_iload_n C.1 C.2.1 dJ2_add_3_40 rfl (lv_at hl 3 rfl) ?_
    refine lv_aload C.1 C.2.1 dJ2_add_3_41 (lv_at hl 0 rfl) ?_
    refine lv_iload_n C.1 C.2.1 dJ2_add_3_43 rfl (lv_at hl 3 rfl) ?_
    refine ti_const C.1 C.2.1 dJ2_add_3_44 ?_
    refine ti_iadd C.1 C.2.1 dJ2_add_3_45 ?_
    refine lv_iload_n C.1 C.2.1 dJ2_add_3_46 rfl (lv_at hl 1 rfl) ?_
    refine lv_iload_n C.1 C.2.1 dJ2_add_3_47 rfl (lv_at hl 3 rfl) ?_
    refine ti_isub C.1 C.2.1 dJ2_add_3_48 ?_
    refine h_copyq C hS hml hl.1 q1270 he_6 he_6 (by omega) (by omega) (by omega) (by omega) (by omega) (by omega) (by omega) (by omega) (fun i hi y hy => by have hx := hg (k + i) (by omega) (by omega); rw [show (k + (i : Int)).toNat = k.toNat + i by omega, hy] at hx; cases hx; exact hO _ (by omega) (by omega)) (by show 1 ≤ 6; decide) (by show 40 ≤ 40 * 6; decide) (Nat.le_of_ble_eq_true rfl) dJ2_add_3_49 (fun H locs hS => ?_)
    obtain ⟨σ_8, eσ_8⟩ : ∃ z, z = va_up σ_4 (arr) (some (oQ (X.2.2.1 3) cap (va_cpy g g (k : Int).toNat ((k + 1) : Int).toNat ((n - k) : Int).toNat))) := ⟨_, rfl⟩
    rw [← eσ_8] at hS
    have he_9 := up_kp eσ_8 (tl_neA he_5 he_6) he_5
    have he_10 : σ_8 (arr) = some (oQ (X.2.2.1 3) cap (va_cpy g g (k : Int).toNat ((k + 1) : Int).toNat ((n - k) : Int).toNat)) := by rw [eσ_8]; exact up_s
    have hv := hv.up eσ_8 (Or.inr ⟨_, _, he_6, rfl⟩)
    refine lv_aload C.1 C.2.1 dJ2_add_3_52 (lv_at hl 0 rfl) ?_
    refine lv_iload_n C.1 C.2.1 dJ2_add_3_54 rfl (lv_at hl 3 rfl) ?_
    refine lv_aload_n C.1 C.2.1 dJ2_add_3_55 rfl (lv_at hl 4 rfl) ?_
    refine h_aastO C hS he_10 hv (by omega) (by omega) (by omega) dJ2_add_3_56 (fun H locs hS => ?_)
    obtain ⟨σ_11, eσ_11⟩ : ∃ z, z = va_up σ_8 (arr) (some (oQ (X.2.2.1 3) cap (va_up (va_cpy g g (k : Int).toNat ((k + 1) : Int).toNat ((n - k) : Int).toNat) (k : Int).toNat (some (v))))) := ⟨_, rfl⟩
    rw [← eσ_11] at hS
    have he_12 := up_kp eσ_11 (tl_neA he_9 he_10) he_9
    have he_13 : σ_11 (arr) = some (oQ (X.2.2.1 3) cap (va_up (va_cpy g g (k : Int).toNat ((k + 1) : Int).toNat ((n - k) : Int).toNat) (k : Int).toNat (some (v)))) := by rw [eσ_11]; exact up_s
    have hv := hv.up eσ_11 (Or.inr ⟨_, _, he_10, rfl⟩)
    refine lv_aload_n C.1 C.2.1 dJ2_add_3_57 rfl (lv_at hl 2 rfl) ?_
    refine lv_iload_n C.1 C.2.1 dJ2_add_3_58 rfl (lv_at hl 1 rfl) ?_
    refine ti_const C.1 C.2.1 dJ2_add_3_59 ?_
    refine ti_iadd C.1 C.2.1 dJ2_add_3_60 ?_
    refine gp_J2_48_9 C hS he_12 rfl rfl (Nat.le_of_ble_eq_true rfl) dJ2_add_3_61 (fun H locs hS => ?_)
    obtain ⟨σ_14, eσ_14⟩ : ∃ z, z = va_up σ_11 (L) (some (oO 9 [.int (iI ((md + 1))), .ref (arr), .int (iI ((n + 1)))])) := ⟨_, rfl⟩
    have hS : tl_S X s σ_14 H locs := by rw [eσ_14]; exact hS
    have he_15 : σ_14 (L) = some (oO 9 [.int (iI ((md + 1))), .ref (arr), .int (iI ((n + 1)))]) := by rw [eσ_14]; exact up_s
    have he_16 := up_kp eσ_14 (Ne.symm (tl_neA he_12 he_13)) he_13
    refine W.widen (k := 1) (n := 1000) (by omega) (by omega) ?_
    exact r_v C hr hlk hS ⟨arr, cap, ⟨he_15, ⟨_, he_16, al_ins hk hg⟩, by omega, by omega, by omega, fun z => by exfalso; omega⟩, hS.fix, Or.inl rfl, (fun b e hb h1 h2 => by rw [eσ_14, up_n h1, eσ_11, up_n h2, eσ_8, up_n h2, eσ_4, up_n h1]; exact hb)⟩ dJ2_add_3_64
  · skip
    refine lv_aload_n C.1 C.2.1 dJ2_add_3_32 rfl (lv_at hl 2 rfl) ?_
    refine tl_cq (t_V (n := 0) (ci := 9) C hml hS (m_AL_grow l X σ_4 L ((md + 1)) n f arr cap ⟨he_5, ⟨g, he_6, hg⟩, hn0, hnc, hc, hz⟩ (by omega) hn6 hO) q954 q956 qs12 q50 q957 (by decide +kernel) he_5 rfl rfl hl.1 rfl (Nat.le_of_ble_eq_true rfl) dJ2_add_3_33 ⟨Nat.le_of_ble_eq_true rfl, Nat.le_of_ble_eq_true rfl⟩ ⟨by show 0 + (1) ≤ 1; omega, by show 0 + (1000) ≤ 1000; omega⟩) hS (fun r_17 σ_19 H locs hP_18 hS => ?_)
    obtain ⟨q, cap', h, rfl, hq, hB, hn1, hc1, eh, hh⟩ := hP_18
    have hv := hv.gr eh he_5 hq
    have hO := hO.gr eh he_5 hq
    have hqL : q ≠ L := fun z => by rw [z, he_5] at hq; cases hq
    have heL : σ_19 L = some (cL ((md + 1)) q n) := by rw [eh]; exact up_s
    have heq : σ_19 q = some (oQ (X.2.2.1 3) cap' h) := by rw [eh, up_n hqL]; exact up_s
    refine lv_astore (lv' := [(4, .ref (q)), (3, .int (iI (n))), (0, .ref (L)), (1, .int (iI (k))), (2, .ref (v))]) C.1 C.2.1 dJ2_add_3_36 hl (by decide) rfl (fun ls hl => ?_)
    refine lv_aload C.1 C.2.1 dJ2_add_3_38 (lv_at hl 0 rfl) ?_
    refine lv_iload_n C.1 C.2.1 dJ2_add_3_40 rfl (lv_at hl 3 rfl) ?_
    refine lv_aload C.1 C.2.1 dJ2_add_3_41 (lv_at hl 0 rfl) ?_
    refine lv_iload_n C.1 C.2.1 dJ2_add_3_43 rfl (lv_at hl 3 rfl) ?_
    refine ti_const C.1 C.2.1 dJ2_add_3_44 ?_
    refine ti_iadd C.1 C.2.1 dJ2_add_3_45 ?_
    refine lv_iload_n C.1 C.2.1 dJ2_add_3_46 rfl (lv_at hl 1 rfl) ?_
    refine lv_iload_n C.1 C.2.1 dJ2_add_3_47 rfl (lv_at hl 3 rfl) ?_
    refine ti_isub C.1 C.2.1 dJ2_add_3_48 ?_
    refine h_copyq C hS hml hl.1 q1270 heq heq (by omega) (by omega) (by omega) (by omega) (by omega) (by omega) (by omega) (by omega) (fun i hi y hy => by have hx := hh (k + i) (by omega) (by omega); rw [show (k + (i : Int)).toNat = k.toNat + i by omega, hy] at hx; cases hx; exact hO _ (by omega) (by omega)) (by show 1 ≤ 6; decide) (by show 40 ≤ 40 * 6; decide) (Nat.le_of_ble_eq_true rfl) dJ2_add_3_49 (fun H locs hS => ?_)
    obtain ⟨σ_20, eσ_20⟩ : ∃ z, z = va_up σ_19 (q) (some (oQ (X.2.2.1 3) cap' (va_cpy h h (k : Int).toNat ((k + 1) : Int).toNat ((n - k) : Int).toNat))) := ⟨_, rfl⟩
    rw [← eσ_20] at hS
    have he_21 := up_kp eσ_20 (tl_neA heL heq) heL
    have he_22 : σ_20 (q) = some (oQ (X.2.2.1 3) cap' (va_cpy h h (k : Int).toNat ((k + 1) : Int).toNat ((n - k) : Int).toNat)) := by rw [eσ_20]; exact up_s
    have hv := hv.up eσ_20 (Or.inr ⟨_, _, heq, rfl⟩)
    refine lv_aload C.1 C.2.1 dJ2_add_3_52 (lv_at hl 0 rfl) ?_
    refine lv_iload_n C.1 C.2.1 dJ2_add_3_54 rfl (lv_at hl 3 rfl) ?_
    refine lv_aload_n C.1 C.2.1 dJ2_add_3_55 rfl (lv_at hl 4 rfl) ?_
    refine h_aastO C hS he_22 hv (by omega) (by omega) (by omega) dJ2_add_3_56 (fun H locs hS => ?_)
    obtain ⟨σ_23, eσ_23⟩ : ∃ z, z = va_up σ_20 (q) (some (oQ (X.2.2.1 3) cap' (va_up (va_cpy h h (k : Int).toNat ((k + 1) : Int).toNat ((n - k) : Int).toNat) (k : Int).toNat (some (v))))) := ⟨_, rfl⟩
    rw [← eσ_23] at hS
    have he_24 := up_kp eσ_23 (tl_neA he_21 he_22) he_21
    have he_25 : σ_23 (q) = some (oQ (X.2.2.1 3) cap' (va_up (va_cpy h h (k : Int).toNat ((k + 1) : Int).toNat ((n - k) : Int).toNat) (k : Int).toNat (some (v)))) := by rw [eσ_23]; exact up_s
    have hv := hv.up eσ_23 (Or.inr ⟨_, _, he_22, rfl⟩)
    refine lv_aload_n C.1 C.2.1 dJ2_add_3_57 rfl (lv_at hl 2 rfl) ?_
    refine lv_iload_n C.1 C.2.1 dJ2_add_3_58 rfl (lv_at hl 1 rfl) ?_
    refine ti_const C.1 C.2.1 dJ2_add_3_59 ?_
    refine ti_iadd C.1 C.2.1 dJ2_add_3_60 ?_
    refine gp_J2_48_9 C hS he_24 rfl rfl (Nat.le_of_ble_eq_true rfl) dJ2_add_3_61 (fun H locs hS => ?_)
    obtain ⟨σ_26, eσ_26⟩ : ∃ z, z = va_up σ_23 (L) (some (oO 9 [.int (iI ((md + 1))), .ref (q), .int (iI ((n + 1)))])) := ⟨_, rfl⟩
    have hS : tl_S X s σ_26 H locs := by rw [eσ_26]; exact hS
    have he_27 : σ_26 (L) = some (oO 9 [.int (iI ((md + 1))), .ref (q), .int (iI ((n + 1)))]) := by rw [eσ_26]; exact up_s
    have he_28 := up_kp eσ_26 (Ne.symm (tl_neA he_24 he_25)) he_25
    refine W.widen (k := 1) (n := 1000) (by omega) (by omega) ?_
    exact r_v C hr hlk hS ⟨q, cap', ⟨he_27, ⟨_, he_28, al_ins hk hh⟩, by omega, by omega, by omega, fun z => by exfalso; omega⟩, hS.fix, Or.inr (show σ q = none by rw [eσ_4, up_n hqL] at hq; exact hq), (fun b e hb h1 h2 => by have hbq : b ≠ q := (fun z => by rw [z, (show σ q = none by rw [eσ_4, up_n hqL] at hq; exact hq)] at hb; cases hb); rw [eσ_26, up_n h1, eσ_23, up_n hbq, eσ_20, up_n hbq, eh, up_n h1, up_n hbq, eσ_4, up_n h1]; exact hb)⟩ dJ2_add_3_64

set_option maxHeartbeats 4000000 in
theorem m_AL_fastRemove (l : Launch) (X : tl_X) (σ : tl_H) (L : Nat) (md n : Int) (f : Int → Nat) (arr cap : Nat) (hAL : AL X σ L md n f arr cap) (hO : AO σ n f) (k : Int) (hk : 0 ≤ k ∧ k < n) : tl_Met l X yJ2_fastRemove cJ2_fastRemove 4 ((Option.none : Option FieldType)) 1 (0) (0) [.ref (L), .ref (arr), .int (iI (k))] σ (tl_Qv X (fun σ' => AL X σ' L (md + 1) (n - 1) (fun i => if i < k then f i else f (i + 1)) arr cap ∧ ALF X σ σ' L arr arr)) := by
  obtain ⟨hL, ⟨g, hA, hg⟩, hn0, hnc, hc, hz⟩ := hAL
  refine tl_start (by decide) (Nat.le_of_ble_eq_true rfl) (fun p e s m below meth c ls C hr hml hlk hnm hS hl => ?_)
  have hl : lv_has ls 4 [(0, .ref (L)), (1, .ref (arr)), (2, .int (iI (k)))] := hl
  refine lv_aload_n C.1 C.2.1 dJ2_fastRemove_0 rfl (lv_at hl 0 rfl) ?_
  refine lv_dup C.1 C.2.1 dJ2_fastRemove_1 rfl ?_
  refine gf_J2_63_9 C hS hL rfl dJ2_fastRemove_2 ?_
  refine ti_const C.1 C.2.1 dJ2_fastRemove_5 ?_
  refine ti_iadd C.1 C.2.1 dJ2_fastRemove_6 ?_
  refine gp_J2_63_9 C hS hL rfl rfl (Nat.le_of_ble_eq_true rfl) dJ2_fastRemove_7 (fun H locs hS => ?_)
  obtain ⟨σ_1, eσ_1⟩ : ∃ z, z = va_up σ (L) (some (oO 9 [.int (iI ((md + 1))), .ref (arr), .int (iI (n))])) := ⟨_, rfl⟩
  have hS : tl_S X s σ_1 H locs := by rw [eσ_1]; exact hS
  have he_2 : σ_1 (L) = some (oO 9 [.int (iI ((md + 1))), .ref (arr), .int (iI (n))]) := by rw [eσ_1]; exact up_s
  have he_3 := up_kp eσ_1 (Ne.symm (tl_neA hL hA)) hA
  have hO := hO.upO eσ_1 hL
  refine lv_aload_n C.1 C.2.1 dJ2_fastRemove_10 rfl (lv_at hl 0 rfl) ?_
  refine gf_J2_48_9 C hS he_2 rfl dJ2_fastRemove_11 ?_
  refine ti_const C.1 C.2.1 dJ2_fastRemove_14 ?_
  refine ti_isub C.1 C.2.1 dJ2_fastRemove_15 ?_
  refine lv_dup C.1 C.2.1 dJ2_fastRemove_16 rfl ?_
  refine lv_istore_n (lv' := [(3, .int (iI ((n - 1)))), (0, .ref (L)), (1, .ref (arr)), (2, .int (iI (k)))]) C.1 C.2.1 dJ2_fastRemove_17 rfl hl (by decide) rfl (fun ls hl => ?_)
  refine lv_iload_n C.1 C.2.1 dJ2_fastRemove_18 rfl (lv_at hl 3 rfl) ?_
  refine ti_icmp_le (tgt := 34) C.1 C.2.1 dJ2_fastRemove_19 (by decide) ⟨by omega, by omega⟩ ⟨by omega, by omega⟩ (fun hc_4 => ?_) (fun hc_4 => ?_)
  · skip
    refine lv_aload_n C.1 C.2.1 dJ2_fastRemove_34 rfl (lv_at hl 2 rfl) ?_
    refine lv_aload_n C.1 C.2.1 dJ2_fastRemove_35 rfl (lv_at hl 1 rfl) ?_
    refine lv_iload_n C.1 C.2.1 dJ2_fastRemove_36 rfl (lv_at hl 0 rfl) ?_
    refine lv_dup_x1 C.1 C.2.1 dJ2_fastRemove_37 rfl rfl ?_
    refine gp_J2_48_9 C hS he_2 rfl rfl (Nat.le_of_ble_eq_true rfl) dJ2_fastRemove_38 (fun H locs hS => ?_)
    obtain ⟨σ_5, eσ_5⟩ : ∃ z, z = va_up σ_1 (L) (some (oO 9 [.int (iI ((md + 1))), .ref (arr), .int (iI ((n - 1)))])) := ⟨_, rfl⟩
    have hS : tl_S X s σ_5 H locs := by rw [eσ_5]; exact hS
    have he_6 : σ_5 (L) = some (oO 9 [.int (iI ((md + 1))), .ref (arr), .int (iI ((n - 1)))]) := by rw [eσ_5]; exact up_s
    have he_7 := up_kp eσ_5 (Ne.symm (tl_neA he_2 he_3)) he_3
    refine lv_null C.1 C.2.1 dJ2_fastRemove_41 ?_
    refine h_aastN C hS he_7 (by omega) (by omega) (by omega) dJ2_fastRemove_42 (fun H locs hS => ?_)
    obtain ⟨σ_8, eσ_8⟩ : ∃ z, z = va_up σ_5 (arr) (some (oQ (X.2.2.1 3) cap (va_up g ((n - 1) : Int).toNat none))) := ⟨_, rfl⟩
    rw [← eσ_8] at hS
    have he_9 := up_kp eσ_8 (tl_neA he_6 he_7) he_6
    have he_10 : σ_8 (arr) = some (oQ (X.2.2.1 3) cap (va_up g ((n - 1) : Int).toNat none)) := by rw [eσ_8]; exact up_s
    exact r_v C hr hlk hS ⟨⟨he_9, ⟨_, he_10, al_del0 (by omega) hg⟩, by omega, by omega, by omega, hz⟩, hS.fix, Or.inl rfl, (fun b e hb h1 h2 => by rw [eσ_8, up_n h2, eσ_5, up_n h1, eσ_1, up_n h1]; exact hb)⟩ dJ2_fastRemove_43
  · skip
    refine lv_aload_n C.1 C.2.1 dJ2_fastRemove_22 rfl (lv_at hl 2 rfl) ?_
    refine lv_iload_n C.1 C.2.1 dJ2_fastRemove_23 rfl (lv_at hl 3 rfl) ?_
    refine ti_const C.1 C.2.1 dJ2_fastRemove_24 ?_
    refine ti_iadd C.1 C.2.1 dJ2_fastRemove_25 ?_
    refine lv_aload_n C.1 C.2.1 dJ2_fastRemove_26 rfl (lv_at hl 2 rfl) ?_
    refine lv_iload_n C.1 C.2.1 dJ2_fastRemove_27 rfl (lv_at hl 3 rfl) ?_
    refine lv_iload_n C.1 C.2.1 dJ2_fastRemove_28 rfl (lv_at hl 0 rfl) ?_
    refine lv_iload_n C.1 C.2.1 dJ2_fastRemove_29 rfl (lv_at hl 3 rfl) ?_
    refine ti_isub C.1 C.2.1 dJ2_fastRemove_30 ?_
    refine h_copyq C hS hml hl.1 q1270 he_3 he_3 (by omega) (by omega) (by omega) (by omega) (by omega) (by omega) (by omega) (by omega) (fun i hi y hy => by have hx := hg (k + 1 + i) (by omega) (by omega); rw [show (k + 1 + (i : Int)).toNat = (k + 1).toNat + i by omega, hy] at hx; cases hx; exact hO _ (by omega) (by omega)) (by show 1 ≤ 1; decide) (by show 40 ≤ 40 * 1; decide) (Nat.le_of_ble_eq_true rfl) dJ2_fastRemove_31 (fun H locs hS => ?_)
    obtain ⟨σ_11, eσ_11⟩ : ∃ z, z = va_up σ_1 (arr) (some (oQ (X.2.2.1 3) cap (va_cpy g g ((k + 1) : Int).toNat (k : Int).toNat (((n - 1) - k) : Int).toNat))) := ⟨_, rfl⟩
    rw [← eσ_11] at hS
    have he_12 := up_kp eσ_11 (tl_neA he_2 he_3) he_2
    have he_13 : σ_11 (arr) = some (oQ (X.2.2.1 3) cap (va_cpy g g ((k + 1) : Int).toNat (k : Int).toNat (((n - 1) - k) : Int).toNat)) := by rw [eσ_11]; exact up_s
    refine lv_aload_n C.1 C.2.1 dJ2_fastRemove_34 rfl (lv_at hl 2 rfl) ?_
    refine lv_aload_n C.1 C.2.1 dJ2_fastRemove_35 rfl (lv_at hl 1 rfl) ?_
    refine lv_iload_n C.1 C.2.1 dJ2_fastRemove_36 rfl (lv_at hl 0 rfl) ?_
    refine lv_dup_x1 C.1 C.2.1 dJ2_fastRemove_37 rfl rfl ?_
    refine gp_J2_48_9 C hS he_12 rfl rfl (Nat.le_of_ble_eq_true rfl) dJ2_fastRemove_38 (fun H locs hS => ?_)
    obtain ⟨σ_14, eσ_14⟩ : ∃ z, z = va_up σ_11 (L) (some (oO 9 [.int (iI ((md + 1))), .ref (arr), .int (iI ((n - 1)))])) := ⟨_, rfl⟩
    have hS : tl_S X s σ_14 H locs := by rw [eσ_14]; exact hS
    have he_15 : σ_14 (L) = some (oO 9 [.int (iI ((md + 1))), .ref (arr), .int (iI ((n - 1)))]) := by rw [eσ_14]; exact up_s
    have he_16 := up_kp eσ_14 (Ne.symm (tl_neA he_12 he_13)) he_13
    refine lv_null C.1 C.2.1 dJ2_fastRemove_41 ?_
    refine h_aastN C hS he_16 (by omega) (by omega) (by omega) dJ2_fastRemove_42 (fun H locs hS => ?_)
    obtain ⟨σ_17, eσ_17⟩ : ∃ z, z = va_up σ_14 (arr) (some (oQ (X.2.2.1 3) cap (va_up (va_cpy g g ((k + 1) : Int).toNat (k : Int).toNat (((n - 1) - k) : Int).toNat) ((n - 1) : Int).toNat none))) := ⟨_, rfl⟩
    rw [← eσ_17] at hS
    have he_18 := up_kp eσ_17 (tl_neA he_15 he_16) he_15
    have he_19 : σ_17 (arr) = some (oQ (X.2.2.1 3) cap (va_up (va_cpy g g ((k + 1) : Int).toNat (k : Int).toNat (((n - 1) - k) : Int).toNat) ((n - 1) : Int).toNat none)) := by rw [eσ_17]; exact up_s
    exact r_v C hr hlk hS ⟨⟨he_18, ⟨_, he_19, al_del hk hg⟩, by omega, by omega, by omega, hz⟩, hS.fix, Or.inl rfl, (fun b e hb h1 h2 => by rw [eσ_17, up_n h2, eσ_14, up_n h1, eσ_11, up_n h2, eσ_1, up_n h1]; exact hb)⟩ dJ2_fastRemove_43

/-- an iterator: the next place, the last one, the list's changes as it was made, the list -/
abbrev cIt (c lr md : Int) (L : Nat) : va_E := oO 10 [.int (iI c), .int (iI lr), .int (iI md), .ref L]
theorem gq_J18_1_10 {p : Program} {l : Launch} {e : Env} {R : Room} {s : State} {m : MethodId} {args : Array Value} {below : List Frame} {meth : Method} {c : Code} {H : Heap} {locs : List Loc} {cells slots : Nat} {Q : State → Prop} {cc : ByteArray} {pc : Nat} {ls : Array Slot} {rest : List Value} {X : tl_X} {σ : tl_H} {a : Nat} {fs : List Value} {v : Value} (C : tl_C X p s m args c cc RJ18) (hin : meth.name = "<init>") (hS : tl_S X s σ H locs) (hw : X.2.1 ≤ a) (he : σ a = some (oO 10 fs)) (hn : narrow (tyJ18 3) v = v) (hfit : fits (tyJ18 3) v = true) (hl : 3 < fs.length) (hdg : decode cc pc = .ok (.putfield 1, 3)) (kk : ∀ (H1 : Heap) (locs1 : List Loc), tl_S X s (va_up σ a (some (oO 10 (fs.set 3 v)))) H1 locs1 → W p l e R s m args below meth c H1 locs1 cells slots Q (F0 m (pc + 3) ls rest)) : W p l e R s m args below meth c H locs cells slots Q (F0 m pc ls (v :: .ref a :: rest)) :=
  h_putF (ref := "java/util/ArrayList$Itr") C hin hS in_J18 tyJ18 tyJ18_ok nmJ18 rfl 3 (by decide) q195 (fun _ h => h) rfl rfl hw he hn hfit hl hdg kk
theorem gp_J18_13_10 {p : Program} {l : Launch} {e : Env} {R : Room} {s : State} {m : MethodId} {args : Array Value} {below : List Frame} {meth : Method} {c : Code} {H : Heap} {locs : List Loc} {cells slots : Nat} {Q : State → Prop} {cc : ByteArray} {pc : Nat} {ls : Array Slot} {rest : List Value} {X : tl_X} {σ : tl_H} {a : Nat} {fs : List Value} {v : Value} (C : tl_C X p s m args c cc RJ18) (hS : tl_S X s σ H locs) (he : σ a = some (oO 10 fs)) (hn : narrow (tyJ18 1) v = v) (hfit : fits (tyJ18 1) v = true) (hl : 1 < fs.length) (hdg : decode cc pc = .ok (.putfield 13, 3)) (kk : ∀ (H1 : Heap) (locs1 : List Loc), tl_S X s (va_up σ a (some (oO 10 (fs.set 1 v)))) H1 locs1 → W p l e R s m args below meth c H1 locs1 cells slots Q (F0 m (pc + 3) ls rest)) : W p l e R s m args below meth c H locs cells slots Q (F0 m pc ls (v :: .ref a :: rest)) :=
  h_put (ref := "java/util/ArrayList$Itr") C hS in_J18 tyJ18 tyJ18_ok nmJ18 rfl 1 (by decide) q193 (fun _ h => h) rfl (by decide) he hn hfit hl hdg kk
theorem gf_J18_1_10 {p : Program} {l : Launch} {e : Env} {R : Room} {s : State} {m : MethodId} {args : Array Value} {below : List Frame} {meth : Method} {c : Code} {H : Heap} {locs : List Loc} {cells slots : Nat} {Q : State → Prop} {cc : ByteArray} {pc : Nat} {ls : Array Slot} {rest : List Value} {X : tl_X} {σ : tl_H} {a : Nat} {fs : List Value} {v : Value} (C : tl_C X p s m args c cc RJ18) (hS : tl_S X s σ H locs) (he : σ a = some (oO 10 fs)) (hv : fs[3]? = some v) (hdg : decode cc pc = .ok (.getfield 1, 3)) (kk : W p l e R s m args below meth c H locs cells slots Q (F0 m (pc + 3) ls (v :: rest))) : W p l e R s m args below meth c H locs cells slots Q (F0 m pc ls (.ref a :: rest)) :=
  h_get (ref := "java/util/ArrayList$Itr") C hS in_J18 rfl 3 (by decide) q195 (fun _ h => h) he hv hdg kk
theorem gf_J18_17_9 {p : Program} {l : Launch} {e : Env} {R : Room} {s : State} {m : MethodId} {args : Array Value} {below : List Frame} {meth : Method} {c : Code} {H : Heap} {locs : List Loc} {cells slots : Nat} {Q : State → Prop} {cc : ByteArray} {pc : Nat} {ls : Array Slot} {rest : List Value} {X : tl_X} {σ : tl_H} {a : Nat} {fs : List Value} {v : Value} (C : tl_C X p s m args c cc RJ18) (hS : tl_S X s σ H locs) (he : σ a = some (oO 9 fs)) (hv : fs[0]? = some v) (hdg : decode cc pc = .ok (.getfield 17, 3)) (kk : W p l e R s m args below meth c H locs cells slots Q (F0 m (pc + 3) ls (v :: rest))) : W p l e R s m args below meth c H locs cells slots Q (F0 m pc ls (.ref a :: rest)) :=
  h_get (ref := "java/util/ArrayList") C hS in_J2 rfl 0 (by decide) q123 (fun x h => u_same (C.2.2.2.1 _ q124) x h) he hv hdg kk
theorem gp_J18_22_10 {p : Program} {l : Launch} {e : Env} {R : Room} {s : State} {m : MethodId} {args : Array Value} {below : List Frame} {meth : Method} {c : Code} {H : Heap} {locs : List Loc} {cells slots : Nat} {Q : State → Prop} {cc : ByteArray} {pc : Nat} {ls : Array Slot} {rest : List Value} {X : tl_X} {σ : tl_H} {a : Nat} {fs : List Value} {v : Value} (C : tl_C X p s m args c cc RJ18) (hS : tl_S X s σ H locs) (he : σ a = some (oO 10 fs)) (hn : narrow (tyJ18 2) v = v) (hfit : fits (tyJ18 2) v = true) (hl : 2 < fs.length) (hdg : decode cc pc = .ok (.putfield 22, 3)) (kk : ∀ (H1 : Heap) (locs1 : List Loc), tl_S X s (va_up σ a (some (oO 10 (fs.set 2 v)))) H1 locs1 → W p l e R s m args below meth c H1 locs1 cells slots Q (F0 m (pc + 3) ls rest)) : W p l e R s m args below meth c H locs cells slots Q (F0 m pc ls (v :: .ref a :: rest)) :=
  h_put (ref := "java/util/ArrayList$Itr") C hS in_J18 tyJ18 tyJ18_ok nmJ18 rfl 2 (by decide) q194 (fun _ h => h) rfl (by decide) he hn hfit hl hdg kk
set_option maxHeartbeats 4000000 in
theorem m_It_init (l : Launch) (X : tl_X) (σ : tl_H) (L : Nat) (md n : Int) (f : Int → Nat) (arr cap : Nat) (hAL : AL X σ L md n f arr cap) (it : Nat) (hw : X.2.1 ≤ it) (hit : σ it = some (oO 10 [.int (iI 0), .int (iI 0), .int (iI 0), .null])) : tl_Met l X yJ18_init cJ18_init 2 ((Option.none : Option FieldType)) 1 (0) (0) [.ref (it), .ref (L)] σ (tl_Qv X (fun σ' => σ' = va_up σ it (some (cIt 0 (-1) md L)))) := by
  obtain ⟨hL, ⟨g, hA, hg⟩, hn0, hnc, hc, hz⟩ := hAL
  refine tl_start (by decide) (Nat.le_of_ble_eq_true rfl) (fun p e s m below meth c ls C hr hml hlk hnm hS hl => ?_)
  have hl : lv_has ls 2 [(0, .ref (it)), (1, .ref (L))] := hl
  refine lv_aload_n C.1 C.2.1 dJ18_init_0 rfl (lv_at hl 0 rfl) ?_
  refine lv_aload_n C.1 C.2.1 dJ18_init_1 rfl (lv_at hl 1 rfl) ?_
  refine gq_J18_1_10 C hnm hS hw hit rfl rfl (Nat.le_of_ble_eq_true rfl) dJ18_init_2 (fun H locs hS => ?_)
  obtain ⟨σ_1, eσ_1⟩ : ∃ z, z = va_up σ (it) (some (oO 10 [.int (iI (0)), .int (iI (0)), .int (iI (0)), .ref (L)])) := ⟨_, rfl⟩
  have hS : tl_S X s σ_1 H locs := by rw [eσ_1]; exact hS
  have he_2 := up_kp eσ_1 (tl_ne hL hit (by decide)) hL
  have he_3 := up_kp eσ_1 (Ne.symm (tl_neA hit hA)) hA
  have he_4 : σ_1 (it) = some (oO 10 [.int (iI (0)), .int (iI (0)), .int (iI (0)), .ref (L)]) := by rw [eσ_1]; exact up_s
  refine lv_aload_n C.1 C.2.1 dJ18_init_5 rfl (lv_at hl 0 rfl) ?_
  refine h_obj C hml hl.1 q191 dJ18_init_6 (by show 1 ≤ 1; decide) (by show 40 ≤ 40 * 1; decide) (Nat.le_of_ble_eq_true rfl) ?_
  refine lv_aload_n C.1 C.2.1 dJ18_init_9 rfl (lv_at hl 0 rfl) ?_
  refine ti_const C.1 C.2.1 dJ18_init_10 ?_
  refine gp_J18_13_10 C hS he_4 rfl rfl (Nat.le_of_ble_eq_true rfl) dJ18_init_11 (fun H locs hS => ?_)
  obtain ⟨σ_5, eσ_5⟩ : ∃ z, z = va_up σ_1 (it) (some (oO 10 [.int (iI (0)), .int (iI ((-1))), .int (iI (0)), .ref (L)])) := ⟨_, rfl⟩
  have hS : tl_S X s σ_5 H locs := by rw [eσ_5]; exact hS
  have he_6 := up_kp eσ_5 (tl_ne he_2 he_4 (by decide)) he_2
  have he_7 := up_kp eσ_5 (Ne.symm (tl_neA he_4 he_3)) he_3
  have he_8 : σ_5 (it) = some (oO 10 [.int (iI (0)), .int (iI ((-1))), .int (iI (0)), .ref (L)]) := by rw [eσ_5]; exact up_s
  refine lv_aload_n C.1 C.2.1 dJ18_init_14 rfl (lv_at hl 0 rfl) ?_
  refine lv_aload_n C.1 C.2.1 dJ18_init_15 rfl (lv_at hl 0 rfl) ?_
  refine gf_J18_1_10 C hS he_8 rfl dJ18_init_16 ?_
  refine gf_J18_17_9 C hS he_6 rfl dJ18_init_19 ?_
  refine gp_J18_22_10 C hS he_8 rfl rfl (Nat.le_of_ble_eq_true rfl) dJ18_init_22 (fun H locs hS => ?_)
  obtain ⟨σ_9, eσ_9⟩ : ∃ z, z = va_up σ_5 (it) (some (oO 10 [.int (iI (0)), .int (iI ((-1))), .int (iI (md)), .ref (L)])) := ⟨_, rfl⟩
  have hS : tl_S X s σ_9 H locs := by rw [eσ_9]; exact hS
  have he_10 := up_kp eσ_9 (tl_ne he_6 he_8 (by decide)) he_6
  have he_11 := up_kp eσ_9 (Ne.symm (tl_neA he_8 he_7)) he_7
  have he_12 : σ_9 (it) = some (oO 10 [.int (iI (0)), .int (iI ((-1))), .int (iI (md)), .ref (L)]) := by rw [eσ_9]; exact up_s
  exact r_v C hr hlk hS (by rw [eσ_9, eσ_5, eσ_1, up_uu, up_uu]) dJ18_init_25

theorem df_J18 : ∀ j, j < 4 → defaultValue (tyJ18 j) = vp_V [.int (iI (0)), .int (iI (0)), .int (iI (0)), .null] j := by
  intro j hj
  rcases (show j = 0 ∨ j = 1 ∨ j = 2 ∨ j = 3 by omega) with rfl | rfl | rfl | rfl <;> rfl
set_option maxHeartbeats 4000000 in
theorem m_AL_iterator (l : Launch) (X : tl_X) (σ : tl_H) (L : Nat) (md n : Int) (f : Int → Nat) (arr cap : Nat) (hAL : AL X σ L md n f arr cap)  : tl_Met l X yJ2_iterator cJ2_iterator 1 ((Option.some (FieldType.object "java/util/Iterator"))) 2 (1) (4) [.ref (L)] σ (tl_Qq X (fun r σ' => ∃ it : Nat, r = some it ∧ σ it = none ∧ X.2.1 ≤ it ∧ σ' = va_up σ it (some (cIt 0 (-1) md L)))) := by
  obtain ⟨hL, ⟨g, hA, hg⟩, hn0, hnc, hc, hz⟩ := hAL
  refine tl_start (by decide) (Nat.le_of_ble_eq_true rfl) (fun p e s m below meth c ls C hr hml hlk hnm hS hl => ?_)
  have hl : lv_has ls 1 [(0, .ref (L))] := hl
  refine h_new (ci := 10) (fs := [.int (iI (0)), .int (iI (0)), .int (iI (0)), .null]) C hS in_J18 tyJ18 tyJ18_ok q186 q187 q71 rfl df_J18 (by show 0 + 1 ≤ 1; omega) (by show 0 + 4 ≤ 4; omega) dJ2_iterator_0 (fun q_1 H hS hq_1 hBq_1 => ?_)
  obtain ⟨σ_2, eσ_2⟩ : ∃ z, z = va_up σ q_1 (some (oO 10 [.int (iI (0)), .int (iI (0)), .int (iI (0)), .null])) := ⟨_, rfl⟩
  rw [← eσ_2] at hS
  have he_3 := up_kq eσ_2 hq_1 hL
  have he_4 := up_kq eσ_2 hq_1 hA
  have he_5 : σ_2 q_1 = some (oO 10 [.int (iI (0)), .int (iI (0)), .int (iI (0)), .null]) := by rw [eσ_2]; exact up_s
  refine lv_dup C.1 C.2.1 dJ2_iterator_3 rfl ?_
  refine lv_aload_n C.1 C.2.1 dJ2_iterator_4 rfl (lv_at hl 0 rfl) ?_
  refine tl_cv (t_I (n := 1) C hml hS (m_It_init l X σ_2 L md n f arr cap ⟨he_3, ⟨g, he_4, hg⟩, hn0, hnc, hc, hz⟩ q_1 hBq_1 he_5) q188 q189 q71 q190 rfl (by decide +kernel) rfl hl.1 rfl (Nat.le_of_ble_eq_true rfl) dJ2_iterator_5 ⟨Nat.le_of_ble_eq_true rfl, Nat.le_of_ble_eq_true rfl⟩ ⟨by show 0 + 1 + (0) ≤ 1; omega, by show 0 + 4 + (0) ≤ 4; omega⟩) hS (fun σ_8 H locs hP_7 hS => ?_)
  refine W.widen (k := 1) (n := 4) (by omega) (by omega) ?_
  exact r_q (v := (some (q_1))) C hr (by first | exact Or.inl ⟨_, rfl⟩ | exact Or.inr ⟨_, rfl⟩) hlk hS ⟨q_1, rfl, hq_1, hBq_1, by rw [hP_7, eσ_2, up_uu]⟩ dJ2_iterator_8

theorem gf_J18_25_10 {p : Program} {l : Launch} {e : Env} {R : Room} {s : State} {m : MethodId} {args : Array Value} {below : List Frame} {meth : Method} {c : Code} {H : Heap} {locs : List Loc} {cells slots : Nat} {Q : State → Prop} {cc : ByteArray} {pc : Nat} {ls : Array Slot} {rest : List Value} {X : tl_X} {σ : tl_H} {a : Nat} {fs : List Value} {v : Value} (C : tl_C X p s m args c cc RJ18) (hS : tl_S X s σ H locs) (he : σ a = some (oO 10 fs)) (hv : fs[0]? = some v) (hdg : decode cc pc = .ok (.getfield 25, 3)) (kk : W p l e R s m args below meth c H locs cells slots Q (F0 m (pc + 3) ls (v :: rest))) : W p l e R s m args below meth c H locs cells slots Q (F0 m pc ls (.ref a :: rest)) :=
  h_get (ref := "java/util/ArrayList$Itr") C hS in_J18 rfl 0 (by decide) q192 (fun _ h => h) he hv hdg kk
theorem gf_J18_28_9 {p : Program} {l : Launch} {e : Env} {R : Room} {s : State} {m : MethodId} {args : Array Value} {below : List Frame} {meth : Method} {c : Code} {H : Heap} {locs : List Loc} {cells slots : Nat} {Q : State → Prop} {cc : ByteArray} {pc : Nat} {ls : Array Slot} {rest : List Value} {X : tl_X} {σ : tl_H} {a : Nat} {fs : List Value} {v : Value} (C : tl_C X p s m args c cc RJ18) (hS : tl_S X s σ H locs) (he : σ a = some (oO 9 fs)) (hv : fs[2]? = some v) (hdg : decode cc pc = .ok (.getfield 28, 3)) (kk : W p l e R s m args below meth c H locs cells slots Q (F0 m (pc + 3) ls (v :: rest))) : W p l e R s m args below meth c H locs cells slots Q (F0 m pc ls (.ref a :: rest)) :=
  h_getN (host := "java/util/ArrayList") (ref := "java/util/ArrayList") C hS in_J2 rfl 2 (by decide) (by decide +kernel) (fun _ h => h) he hv hdg kk
set_option maxHeartbeats 4000000 in
theorem m_It_hasNext (l : Launch) (X : tl_X) (σ : tl_H) (L : Nat) (md n : Int) (f : Int → Nat) (arr cap : Nat) (hAL : AL X σ L md n f arr cap) (it : Nat) (cu lr : Int) (hit : σ it = some (cIt cu lr md L)) (hc0 : 0 ≤ cu ∧ cu ≤ n) : tl_Met l X yJ18_hasNext cJ18_hasNext 1 ((Option.some FieldType.boolean)) 1 (0) (0) [.ref (it)] σ (tl_Qi X (fun r σ' => r = iI (tb (decide (cu < n))) ∧ σ = σ')) := by
  obtain ⟨hL, ⟨g, hA, hg⟩, hn0, hnc, hc, hz⟩ := hAL
  refine tl_start (by decide) (Nat.le_of_ble_eq_true rfl) (fun p e s m below meth c ls C hr hml hlk hnm hS hl => ?_)
  have hl : lv_has ls 1 [(0, .ref (it))] := hl
  refine lv_aload_n C.1 C.2.1 dJ18_hasNext_0 rfl (lv_at hl 0 rfl) ?_
  refine gf_J18_25_10 C hS hit rfl dJ18_hasNext_1 ?_
  refine lv_aload_n C.1 C.2.1 dJ18_hasNext_4 rfl (lv_at hl 0 rfl) ?_
  refine gf_J18_1_10 C hS hit rfl dJ18_hasNext_5 ?_
  refine gf_J18_28_9 C hS hL rfl dJ18_hasNext_8 ?_
  refine ti_icmp_eq (tgt := 18) C.1 C.2.1 dJ18_hasNext_11 (by decide) ⟨by omega, by omega⟩ ⟨by omega, by omega⟩ (fun hc_1 => ?_) (fun hc_1 => ?_)
  · skip
    refine ti_const C.1 C.2.1 dJ18_hasNext_18 ?_
    exact r_z (z := 0) C hr hlk hS (by first | exact tb01 _ | omega | decide) ⟨congrArg iI (tb_f (by omega)).symm, rfl⟩ dJ18_hasNext_19
  · skip
    refine ti_const C.1 C.2.1 dJ18_hasNext_14 ?_
    refine lv_goto (tgt := 19) C.1 C.2.1 dJ18_hasNext_15 (by decide) ?_
    exact r_z (z := 1) C hr hlk hS (by first | exact tb01 _ | omega | decide) ⟨congrArg iI (tb_t (by omega)).symm, rfl⟩ dJ18_hasNext_19

theorem gf_J18_22_10 {p : Program} {l : Launch} {e : Env} {R : Room} {s : State} {m : MethodId} {args : Array Value} {below : List Frame} {meth : Method} {c : Code} {H : Heap} {locs : List Loc} {cells slots : Nat} {Q : State → Prop} {cc : ByteArray} {pc : Nat} {ls : Array Slot} {rest : List Value} {X : tl_X} {σ : tl_H} {a : Nat} {fs : List Value} {v : Value} (C : tl_C X p s m args c cc RJ18) (hS : tl_S X s σ H locs) (he : σ a = some (oO 10 fs)) (hv : fs[2]? = some v) (hdg : decode cc pc = .ok (.getfield 22, 3)) (kk : W p l e R s m args below meth c H locs cells slots Q (F0 m (pc + 3) ls (v :: rest))) : W p l e R s m args below meth c H locs cells slots Q (F0 m pc ls (.ref a :: rest)) :=
  h_get (ref := "java/util/ArrayList$Itr") C hS in_J18 rfl 2 (by decide) q194 (fun _ h => h) he hv hdg kk
set_option maxHeartbeats 4000000 in
theorem m_It_check (l : Launch) (X : tl_X) (σ : tl_H) (L : Nat) (md n : Int) (f : Int → Nat) (arr cap : Nat) (hAL : AL X σ L md n f arr cap) (it : Nat) (cu lr : Int) (hit : σ it = some (cIt cu lr md L))  : tl_Met l X yJ18_checkForComodification cJ18_checkForComodification 1 ((Option.none : Option FieldType)) 1 (0) (0) [.ref (it)] σ (tl_Qv X (fun σ' => σ = σ')) := by
  obtain ⟨hL, ⟨g, hA, hg⟩, hn0, hnc, hc, hz⟩ := hAL
  refine tl_start (by decide) (Nat.le_of_ble_eq_true rfl) (fun p e s m below meth c ls C hr hml hlk hnm hS hl => ?_)
  have hl : lv_has ls 1 [(0, .ref (it))] := hl
  refine lv_aload_n C.1 C.2.1 dJ18_checkForComodification_0 rfl (lv_at hl 0 rfl) ?_
  refine gf_J18_1_10 C hS hit rfl dJ18_checkForComodification_1 ?_
  refine gf_J18_17_9 C hS hL rfl dJ18_checkForComodification_4 ?_
  refine lv_aload_n C.1 C.2.1 dJ18_checkForComodification_7 rfl (lv_at hl 0 rfl) ?_
  refine gf_J18_22_10 C hS hit rfl dJ18_checkForComodification_8 ?_
  refine lv_icmp_eq (tgt := 22) C.1 C.2.1 dJ18_checkForComodification_11 (by decide) (fun hc_1 => ?_) (fun hc_1 => ?_)
  · skip
    exact r_v C hr hlk hS rfl dJ18_checkForComodification_22
  · skip
    exact absurd rfl hc_1

theorem gf_J18_37_9 {p : Program} {l : Launch} {e : Env} {R : Room} {s : State} {m : MethodId} {args : Array Value} {below : List Frame} {meth : Method} {c : Code} {H : Heap} {locs : List Loc} {cells slots : Nat} {Q : State → Prop} {cc : ByteArray} {pc : Nat} {ls : Array Slot} {rest : List Value} {X : tl_X} {σ : tl_H} {a : Nat} {fs : List Value} {v : Value} (C : tl_C X p s m args c cc RJ18) (hS : tl_S X s σ H locs) (he : σ a = some (oO 9 fs)) (hv : fs[1]? = some v) (hdg : decode cc pc = .ok (.getfield 37, 3)) (kk : W p l e R s m args below meth c H locs cells slots Q (F0 m (pc + 3) ls (v :: rest))) : W p l e R s m args below meth c H locs cells slots Q (F0 m pc ls (.ref a :: rest)) :=
  h_get (ref := "java/util/ArrayList") C hS in_J2 rfl 1 (by decide) q119 (fun _ h => h) he hv hdg kk
theorem gp_J18_25_10 {p : Program} {l : Launch} {e : Env} {R : Room} {s : State} {m : MethodId} {args : Array Value} {below : List Frame} {meth : Method} {c : Code} {H : Heap} {locs : List Loc} {cells slots : Nat} {Q : State → Prop} {cc : ByteArray} {pc : Nat} {ls : Array Slot} {rest : List Value} {X : tl_X} {σ : tl_H} {a : Nat} {fs : List Value} {v : Value} (C : tl_C X p s m args c cc RJ18) (hS : tl_S X s σ H locs) (he : σ a = some (oO 10 fs)) (hn : narrow (tyJ18 0) v = v) (hfit : fits (tyJ18 0) v = true) (hl : 0 < fs.length) (hdg : decode cc pc = .ok (.putfield 25, 3)) (kk : ∀ (H1 : Heap) (locs1 : List Loc), tl_S X s (va_up σ a (some (oO 10 (fs.set 0 v)))) H1 locs1 → W p l e R s m args below meth c H1 locs1 cells slots Q (F0 m (pc + 3) ls rest)) : W p l e R s m args below meth c H locs cells slots Q (F0 m pc ls (v :: .ref a :: rest)) :=
  h_put (ref := "java/util/ArrayList$Itr") C hS in_J18 tyJ18 tyJ18_ok nmJ18 rfl 0 (by decide) q192 (fun _ h => h) rfl (by decide) he hn hfit hl hdg kk
set_option maxHeartbeats 4000000 in
theorem m_It_next (l : Launch) (X : tl_X) (σ : tl_H) (L : Nat) (md n : Int) (f : Int → Nat) (arr cap : Nat) (hAL : AL X σ L md n f arr cap) (it : Nat) (cu lr : Int) (hit : σ it = some (cIt cu lr md L)) (hc0 : 0 ≤ cu ∧ cu < n) : tl_Met l X yJ18_next cJ18_next 3 ((Option.some (FieldType.object "java/lang/Object"))) 2 (0) (0) [.ref (it)] σ (tl_Qq X (fun r σ' => r = some (f cu) ∧ σ' = va_up σ it (some (cIt (cu + 1) cu md L)))) := by
  obtain ⟨hL, ⟨g, hA, hg⟩, hn0, hnc, hc, hz⟩ := hAL
  refine tl_start (by decide) (Nat.le_of_ble_eq_true rfl) (fun p e s m below meth c ls C hr hml hlk hnm hS hl => ?_)
  have hl : lv_has ls 3 [(0, .ref (it))] := hl
  refine lv_aload_n C.1 C.2.1 dJ18_next_0 rfl (lv_at hl 0 rfl) ?_
  refine tl_cv (t_V (n := 0) (ci := 10) C hml hS (m_It_check l X σ L md n f arr cap ⟨hL, ⟨g, hA, hg⟩, hn0, hnc, hc, hz⟩ it cu lr hit) q372 q373 q374 q71 q375 (by decide +kernel) hit rfl rfl hl.1 rfl (Nat.le_of_ble_eq_true rfl) dJ18_next_1 ⟨Nat.le_of_ble_eq_true rfl, Nat.le_of_ble_eq_true rfl⟩ ⟨Nat.le_refl _, Nat.le_refl _⟩) hS (fun σ_3 H locs hP_2 hS => ?_)
  obtain rfl := hP_2
  refine lv_aload_n C.1 C.2.1 dJ18_next_4 rfl (lv_at hl 0 rfl) ?_
  refine gf_J18_25_10 C hS hit rfl dJ18_next_5 ?_
  refine lv_istore_n (lv' := [(1, .int (iI (cu))), (0, .ref (it))]) C.1 C.2.1 dJ18_next_8 rfl hl (by decide) rfl (fun ls hl => ?_)
  refine lv_iload_n C.1 C.2.1 dJ18_next_9 rfl (lv_at hl 0 rfl) ?_
  refine lv_aload_n C.1 C.2.1 dJ18_next_10 rfl (lv_at hl 1 rfl) ?_
  refine gf_J18_1_10 C hS hit rfl dJ18_next_11 ?_
  refine gf_J18_28_9 C hS hL rfl dJ18_next_14 ?_
  refine ti_icmp_lt (tgt := 28) C.1 C.2.1 dJ18_next_17 (by decide) ⟨by omega, by omega⟩ ⟨by omega, by omega⟩ (fun hc_4 => ?_) (fun hc_4 => ?_)
  · skip
    refine lv_aload_n C.1 C.2.1 dJ18_next_28 rfl (lv_at hl 1 rfl) ?_
    refine gf_J18_1_10 C hS hit rfl dJ18_next_29 ?_
    refine gf_J18_37_9 C hS hL rfl dJ18_next_32 ?_
    refine lv_astore_n (lv' := [(2, .ref (arr)), (1, .int (iI (cu))), (0, .ref (it))]) C.1 C.2.1 dJ18_next_35 rfl hl (by decide) rfl (fun ls hl => ?_)
    refine lv_iload_n C.1 C.2.1 dJ18_next_36 rfl (lv_at hl 1 rfl) ?_
    refine lv_aload_n C.1 C.2.1 dJ18_next_37 rfl (lv_at hl 0 rfl) ?_
    refine h_alenQ C hS hA dJ18_next_38 ?_
    refine ti_icmp_lt (tgt := 50) C.1 C.2.1 dJ18_next_39 (by decide) ⟨by omega, by omega⟩ ⟨by omega, by omega⟩ (fun hc_5 => ?_) (fun hc_5 => ?_)
    · skip
      refine lv_aload_n C.1 C.2.1 dJ18_next_50 rfl (lv_at hl 2 rfl) ?_
      refine lv_iload_n C.1 C.2.1 dJ18_next_51 rfl (lv_at hl 1 rfl) ?_
      refine ti_const C.1 C.2.1 dJ18_next_52 ?_
      refine ti_iadd C.1 C.2.1 dJ18_next_53 ?_
      refine gp_J18_25_10 C hS hit rfl rfl (Nat.le_of_ble_eq_true rfl) dJ18_next_54 (fun H locs hS => ?_)
      obtain ⟨σ_6, eσ_6⟩ : ∃ z, z = va_up σ (it) (some (oO 10 [.int (iI ((cu + 1))), .int (iI (lr)), .int (iI (md)), .ref (L)])) := ⟨_, rfl⟩
      have hS : tl_S X s σ_6 H locs := by rw [eσ_6]; exact hS
      have he_7 := up_kp eσ_6 (tl_ne hL hit (by decide)) hL
      have he_8 := up_kp eσ_6 (Ne.symm (tl_neA hit hA)) hA
      have he_9 : σ_6 (it) = some (oO 10 [.int (iI ((cu + 1))), .int (iI (lr)), .int (iI (md)), .ref (L)]) := by rw [eσ_6]; exact up_s
      refine lv_aload_n C.1 C.2.1 dJ18_next_57 rfl (lv_at hl 0 rfl) ?_
      refine lv_aload_n C.1 C.2.1 dJ18_next_58 rfl (lv_at hl 2 rfl) ?_
      refine lv_iload_n C.1 C.2.1 dJ18_next_59 rfl (lv_at hl 1 rfl) ?_
      refine lv_dup_x1 C.1 C.2.1 dJ18_next_60 rfl rfl ?_
      refine gp_J18_13_10 C hS he_9 rfl rfl (Nat.le_of_ble_eq_true rfl) dJ18_next_61 (fun H locs hS => ?_)
      obtain ⟨σ_10, eσ_10⟩ : ∃ z, z = va_up σ_6 (it) (some (oO 10 [.int (iI ((cu + 1))), .int (iI (cu)), .int (iI (md)), .ref (L)])) := ⟨_, rfl⟩
      have hS : tl_S X s σ_10 H locs := by rw [eσ_10]; exact hS
      have he_11 := up_kp eσ_10 (tl_ne he_7 he_9 (by decide)) he_7
      have he_12 := up_kp eσ_10 (Ne.symm (tl_neA he_9 he_8)) he_8
      have he_13 : σ_10 (it) = some (oO 10 [.int (iI ((cu + 1))), .int (iI (cu)), .int (iI (md)), .ref (L)]) := by rw [eσ_10]; exact up_s
      refine h_aaldY C hS he_12 (hg (cu) (by omega) (by omega)) (by omega) (by omega) (by omega) dJ18_next_64 ?_
      exact r_q (v := (some (f (cu)))) C hr (by first | exact Or.inl ⟨_, rfl⟩ | exact Or.inr ⟨_, rfl⟩) hlk hS ⟨rfl, by rw [eσ_10, eσ_6, up_uu]⟩ dJ18_next_65
    · skip
      exfalso; omega
  · skip
    exfalso; omega

