/-! TREESET.iterator; TreeMap's first entry; colours (printed by gen_tree5.py) -/
set_option maxRecDepth 100000
/-- a colour is set -/
theorem TM.color {X : tl_X} {σ σ' : tl_H} {T : Nat} {n md : Int} {ks : Option Nat} {S : Int → Prop} {rt : Option Int} {lf rg pa : Int → Option Int} {co : Int → Int} {ad kr : Int → Nat} (h : TM X σ T n md ks S rt lf rg pa co ad kr) {q c2 : Int} (hq : S q) (hc : c2 = 0 ∨ c2 = 1) (eq : σ' = va_up σ (ad q) (some (cE (kr q) (X.2.2.2 1) ((lf q).map ad) ((rg q).map ad) ((pa q).map ad) c2))) : TM X σ' T n md ks S rt lf rg pa (fup co q c2) ad kr := by
  obtain ⟨h1, h2, h3⟩ := h
  refine ⟨?_, fun k hk => ⟨?_, ?_, ?_⟩, h3⟩
  · rw [eq, up_n (tl_ne h1 (h2 q hq).1 (by decide))]
    exact h1
  · by_cases z : k = q
    · subst z
      rw [eq, up_s, fup_s]
    · rw [eq, up_n (fun u => z (h3 _ _ hk hq u)), fup_n z]
      exact (h2 k hk).1
  · rw [eq, up_n (tl_ne (h2 k hk).2.1 (h2 q hq).1 (by decide))]
    exact (h2 k hk).2.1
  · by_cases z : k = q
    · subst z
      rw [fup_s]
      exact hc
    · rw [fup_n z]
      exact (h2 k hk).2.2
theorem TF.up {X : tl_X} {σ σ1 σ' : tl_H} {a ci : Nat} {fs : List Value} {e : va_E} (h : TF X σ σ1) (ha : σ1 a = some (oO ci fs)) (hc : ci = 13 ∨ ci = 16) (eq : σ' = va_up σ1 a (some e)) (hf : tl_fix X σ') : TF X σ σ' :=
  ⟨hf, fun b f hb hn => by rw [eq, up_n (nct_ne (h.2 b f hb hn) hn ha hc)]; exact h.2 b f hb hn⟩
theorem TF.tr {X : tl_X} {σ σ1 σ' : tl_H} (h : TF X σ σ1) (g : TF X σ1 σ') : TF X σ σ' := ⟨g.1, fun b f hb hn => g.2 b f (h.2 b f hb hn) hn⟩
theorem TF.rf {X : tl_X} {σ : tl_H} (h : tl_fix X σ) : TF X σ σ := ⟨h, fun _ _ h _ => h⟩
theorem gf_J23_7_14 {p : Program} {l : Launch} {e : Env} {R : Room} {s : State} {m : MethodId} {args : Array Value} {below : List Frame} {meth : Method} {c : Code} {H : Heap} {locs : List Loc} {cells slots : Nat} {Q : State → Prop} {cc : ByteArray} {pc : Nat} {ls : Array Slot} {rest : List Value} {X : tl_X} {σ : tl_H} {a : Nat} {fs : List Value} {v : Value} (C : tl_C X p s m args c cc RJ23) (hS : tl_S X s σ H locs) (he : σ a = some (oO 14 fs)) (hv : fs[0]? = some v) (hdg : decode cc pc = .ok (.getfield 7, 3)) (kk : W p l e R s m args below meth c H locs cells slots Q (F0 m (pc + 3) ls (v :: rest))) : W p l e R s m args below meth c H locs cells slots Q (F0 m pc ls (.ref a :: rest)) :=
  h_get (ref := "java/util/TreeSet") C hS in_J23 rfl 0 (by decide) q450 (fun _ h => h) he hv hdg kk
set_option maxHeartbeats 4000000 in
theorem m_TS_iterator (l : Launch) (X : tl_X) (σ : tl_H) (T : Nat) (n md : Int) (N : Int) (S : Int → Prop) (rt : Option Int) (lf rg pa : Int → Option Int) (lo hi co : Int → Int) (ad kr : Int → Nat) (hT : TM X σ T n md none S rt lf rg pa co ad kr) (hB : BT N S rt lf rg pa lo hi) (k0 : Int) (hk0 : rt = some k0) (hN : ∀ j, S j → -N < j) (a : Nat) (ha : σ a = some (oO 14 [.ref T])) : tl_Met l X yJ23_iterator cJ23_iterator 1 ((Option.some (FieldType.object "java/util/Iterator"))) 5 (2) (5) [.ref (a)] σ (tl_Qq X (fun r σ' => ∃ (q it : Nat) (k : Int), r = some it ∧ σ q = none ∧ σ it = none ∧ it ≠ q ∧ X.2.1 ≤ it ∧ S k ∧ (∀ j, S j → k ≤ j) ∧ σ' = va_up (va_up (va_up σ q (some (oO 17 [.ref T]))) T (some (cT (rt.map ad) n md (some q)))) it (some (cKI (some (ad k)) none md T)))) := by
  refine tl_start (by decide) (Nat.le_of_ble_eq_true rfl) (fun p e s m below meth c ls C hr hml hlk hnm hS hl => ?_)
  have hl : lv_has ls 1 [(0, .ref (a))] := hl
  refine lv_aload_n C.1 C.2.1 dJ23_iterator_0 rfl (lv_at hl 0 rfl) ?_
  refine gf_J23_7_14 C hS ha rfl dJ23_iterator_1 ?_
  refine tl_cFq (t_F (n := 0) (ci := 13) (K := RJ21) C hml hS (m_TM_keySet l X σ T n md rt ad hT.1) q809 q812 q814 q74 q816 (by decide +kernel) (by decide +kernel) hT.1 rfl rfl hl.1 rfl (Nat.le_of_ble_eq_true rfl) dJ23_iterator_4 ⟨Nat.le_of_ble_eq_true rfl, Nat.le_of_ble_eq_true rfl⟩ ⟨by show 0 + (1) ≤ 2; omega, by show 0 + (1) ≤ 5; omega⟩) hS (fun r_1 σ_3 H locs hP_2 hS => ?_)
  obtain ⟨q, rfl, hq, hqB, eq1⟩ := hP_2
  have hqT : q ≠ T := fun z => by rw [z, hT.1] at hq; cases hq
  have hT2 : TM X σ_3 T n md (some q) S rt lf rg pa co ad kr := hT.sub (by rw [eq1]; exact up_s) (fun b f hb hbT => by rw [eq1, up_n hbT]; exact up_old hq hb)
  have hka : σ_3 q = some (oO 17 [.ref T]) := by rw [eq1, up_n hqT]; exact up_s
  refine tl_cFq (t_F (n := 0) (ci := 17) (K := RJ31) C hml hS (m_KS_iterator l X σ_3 T n md (some q) N S rt lf rg pa lo hi co ad kr hT2 hB k0 hk0 hN q hka) q828 q832 q834 q89 q836 (by decide +kernel) (by decide +kernel) hka rfl rfl hl.1 rfl (Nat.le_of_ble_eq_true rfl) dJ23_iterator_9 ⟨Nat.le_of_ble_eq_true rfl, Nat.le_of_ble_eq_true rfl⟩ ⟨by show 0 + (1) + (1) ≤ 2; omega, by show 0 + (1) + (4) ≤ 5; omega⟩) hS (fun r_4 σ_6 H locs hP_5 hS => ?_)
  refine W.widen (k := 2) (n := 5) (by omega) (by omega) ?_
  obtain ⟨it, k, g1, g2, g3, g4, g5, g6⟩ := hP_5
  have hit : it ≠ q := fun z => by rw [z, hka] at g2; cases g2
  have hiT : it ≠ T := fun z => by rw [z, hT2.1] at g2; cases g2
  exact r_q (v := (r_4)) C hr (by first | exact Or.inl ⟨_, rfl⟩ | exact Or.inr ⟨_, rfl⟩) hlk hS ⟨q, it, k, g1, hq, by rw [eq1, up_n hiT, up_n hit] at g2; exact g2, hit, g3, g4, g5, by rw [g6, eq1]⟩ dJ23_iterator_14

set_option maxHeartbeats 4000000 in
theorem m_nonNull (l : Launch) (X : tl_X) (σ : tl_H) (a : Nat) : tl_Met l X yJ16_requireNonNull cJ16_requireNonNull 1 ((Option.some (FieldType.object "java/lang/Object"))) 1 (0) (0) [.ref (a)] σ (tl_Qq X (fun r σ' => r = some a ∧ σ = σ')) := by
  refine tl_start (by decide) (Nat.le_of_ble_eq_true rfl) (fun p e s m below meth c ls C hr hml hlk hnm hS hl => ?_)
  have hl : lv_has ls 1 [(0, .ref (a))] := hl
  refine lv_aload_n C.1 C.2.1 dJ16_requireNonNull_0 rfl (lv_at hl 0 rfl) ?_
  refine lv_ifnonnull (tgt := 12) C.1 C.2.1 dJ16_requireNonNull_1 (by decide) ?_
  refine lv_aload_n C.1 C.2.1 dJ16_requireNonNull_12 rfl (lv_at hl 0 rfl) ?_
  exact r_q (v := (some (a))) C hr (by first | exact Or.inl ⟨_, rfl⟩ | exact Or.inr ⟨_, rfl⟩) hlk hS ⟨rfl, rfl⟩ dJ16_requireNonNull_13

theorem gf_J21_16_13 {p : Program} {l : Launch} {e : Env} {R : Room} {s : State} {m : MethodId} {args : Array Value} {below : List Frame} {meth : Method} {c : Code} {H : Heap} {locs : List Loc} {cells slots : Nat} {Q : State → Prop} {cc : ByteArray} {pc : Nat} {ls : Array Slot} {rest : List Value} {X : tl_X} {σ : tl_H} {a : Nat} {fs : List Value} {v : Value} (C : tl_C X p s m args c cc RJ21) (hS : tl_S X s σ H locs) (he : σ a = some (oO 13 fs)) (hv : fs[2]? = some v) (hdg : decode cc pc = .ok (.getfield 16, 3)) (kk : W p l e R s m args below meth c H locs cells slots Q (F0 m (pc + 3) ls (v :: rest))) : W p l e R s m args below meth c H locs cells slots Q (F0 m pc ls (.ref a :: rest)) :=
  h_get (ref := "java/util/TreeMap") C hS in_J21 rfl 2 (by decide) q418 (fun _ h => h) he hv hdg kk
set_option maxHeartbeats 4000000 in
theorem m_TM_compare (l : Launch) (X : tl_X) (σ : tl_H) (T a b : Nat) (rt : Option Nat) (n md : Int) (ks : Option Nat) (x y : Int) (hxy : -1000000 ≤ x ∧ x ≤ 1000000 ∧ -1000000 ≤ y ∧ y ≤ 1000000) (hT0 : σ T = some (cT rt n md ks)) (ha : σ a = some (cZ x)) (hb : σ b = some (cZ y)) : tl_Met l X yJ21_compare cJ21_compare 3 ((Option.some FieldType.int)) 4 (0) (0) [.ref (T), .ref (a), .ref (b)] σ (tl_Qi X (fun r σ' => r = iI (icm x y) ∧ σ = σ')) := by
  refine tl_start (by decide) (Nat.le_of_ble_eq_true rfl) (fun p e s m below meth c ls C hr hml hlk hnm hS hl => ?_)
  have hl : lv_has ls 3 [(0, .ref (T)), (1, .ref (a)), (2, .ref (b))] := hl
  refine lv_aload_n C.1 C.2.1 dJ21_compare_0 rfl (lv_at hl 0 rfl) ?_
  refine gf_J21_16_13 C hS hT0 rfl dJ21_compare_1 ?_
  refine lv_ifnonnullN C.1 C.2.1 dJ21_compare_4 ?_
  refine lv_aload_n C.1 C.2.1 dJ21_compare_7 rfl (lv_at hl 1 rfl) ?_
  refine h_castY (ci := 15) C hS rfl q501 (by decide +kernel) ha dJ21_compare_8 ?_
  refine lv_aload_n C.1 C.2.1 dJ21_compare_11 rfl (lv_at hl 2 rfl) ?_
  refine tl_cFi (t_F (n := 1) (ci := 15) (K := RJ25) C hml hS (m_Z_compareTo l X σ a b x y hxy ha hb) q503 q507 q509 q81 q511 (by decide +kernel) (by decide +kernel) ha rfl rfl hl.1 rfl (Nat.le_of_ble_eq_true rfl) dJ21_compare_12 ⟨Nat.le_of_ble_eq_true rfl, Nat.le_of_ble_eq_true rfl⟩ ⟨Nat.le_refl _, Nat.le_refl _⟩) hS (fun r_1 σ_3 H locs hP_2 hS => ?_)
  obtain ⟨rfl, rfl⟩ := hP_2
  refine lv_goto (tgt := 31) C.1 C.2.1 dJ21_compare_17 (by decide) ?_
  exact r_i C hr hlk hS ⟨rfl, rfl⟩ dJ21_compare_31

theorem df_J30 : ∀ j, j < 6 → defaultValue (tyJ30 j) = vp_V [.null, .null, .null, .null, .null, .int (iI (0))] j := by
  intro j hj
  rcases (show j = 0 ∨ j = 1 ∨ j = 2 ∨ j = 3 ∨ j = 4 ∨ j = 5 by omega) with rfl | rfl | rfl | rfl | rfl | rfl <;> rfl
theorem gf_J21_13_13 {p : Program} {l : Launch} {e : Env} {R : Room} {s : State} {m : MethodId} {args : Array Value} {below : List Frame} {meth : Method} {c : Code} {H : Heap} {locs : List Loc} {cells slots : Nat} {Q : State → Prop} {cc : ByteArray} {pc : Nat} {ls : Array Slot} {rest : List Value} {X : tl_X} {σ : tl_H} {a : Nat} {fs : List Value} {v : Value} (C : tl_C X p s m args c cc RJ21) (hS : tl_S X s σ H locs) (he : σ a = some (oO 13 fs)) (hv : fs[5]? = some v) (hdg : decode cc pc = .ok (.getfield 13, 3)) (kk : W p l e R s m args below meth c H locs cells slots Q (F0 m (pc + 3) ls (v :: rest))) : W p l e R s m args below meth c H locs cells slots Q (F0 m pc ls (.ref a :: rest)) :=
  h_get (ref := "java/util/TreeMap") C hS in_J21 rfl 5 (by decide) q421 (fun _ h => h) he hv hdg kk
set_option maxHeartbeats 4000000 in
theorem m_TM_addFirst (l : Launch) (X : tl_X) (σ : tl_H) (T a v : Nat) (n md : Int) (ks : Option Nat) (x : Int) (hx : -1000000 ≤ x ∧ x ≤ 1000000) (hT0 : σ T = some (cT none n md ks)) (ha : σ a = some (cZ x)) : tl_Met l X yJ21_addEntryToEmptyMap cJ21_addEntryToEmptyMap 3 ((Option.none : Option FieldType)) 5 (1) (6) [.ref (T), .ref (a), .ref (v)] σ (tl_Qv X (fun σ' => ∃ q : Nat, σ q = none ∧ X.2.1 ≤ q ∧ σ' = va_up (va_up σ q (some (cE a v none none none 1))) T (some (cT (some q) 1 (md + 1) ks)))) := by
  have hT0 : σ T = some (oO 13 [.null, .null, .null, .null, .int (iI n), .int (iI md), .null, va_rf ks, .null]) := hT0
  refine tl_start (by decide) (Nat.le_of_ble_eq_true rfl) (fun p e s m below meth c ls C hr hml hlk hnm hS hl => ?_)
  have hl : lv_has ls 3 [(0, .ref (T)), (1, .ref (a)), (2, .ref (v))] := hl
  refine lv_aload_n C.1 C.2.1 dJ21_addEntryToEmptyMap_0 rfl (lv_at hl 0 rfl) ?_
  refine lv_aload_n C.1 C.2.1 dJ21_addEntryToEmptyMap_1 rfl (lv_at hl 1 rfl) ?_
  refine lv_aload_n C.1 C.2.1 dJ21_addEntryToEmptyMap_2 rfl (lv_at hl 1 rfl) ?_
  refine tl_ci (t_V (n := 2) (ci := 13) C hml hS (m_TM_compare l X σ T a a none n md ks x x (by omega) hT0 ha ha) q497 q498 q499 q74 q500 (by decide +kernel) hT0 rfl rfl hl.1 rfl (Nat.le_of_ble_eq_true rfl) dJ21_addEntryToEmptyMap_3 ⟨Nat.le_of_ble_eq_true rfl, Nat.le_of_ble_eq_true rfl⟩ ⟨by show 0 + (0) ≤ 1; omega, by show 0 + (0) ≤ 6; omega⟩) hS (fun r_1 σ_3 H locs hP_2 hS => ?_)
  obtain ⟨rfl, rfl⟩ := hP_2
  refine lv_pop C.1 C.2.1 dJ21_addEntryToEmptyMap_6 rfl ?_
  refine lv_aload_n C.1 C.2.1 dJ21_addEntryToEmptyMap_7 rfl (lv_at hl 0 rfl) ?_
  refine h_new (ci := 16) (fs := [.null, .null, .null, .null, .null, .int (iI (0))]) C hS in_J30 tyJ30 tyJ30_ok q734 q735 q88 rfl df_J30 (by show 0 + 1 ≤ 1; omega) (by show 0 + 6 ≤ 6; omega) dJ21_addEntryToEmptyMap_8 (fun q_4 H hS hq_4 hBq_4 => ?_)
  obtain ⟨σ_5, eσ_5⟩ : ∃ z, z = va_up σ q_4 (some (oO 16 [.null, .null, .null, .null, .null, .int (iI (0))])) := ⟨_, rfl⟩
  rw [← eσ_5] at hS
  have he_6 := up_kq eσ_5 hq_4 hT0
  have he_7 := up_kq eσ_5 hq_4 ha
  have he_8 : σ_5 q_4 = some (oO 16 [.null, .null, .null, .null, .null, .int (iI (0))]) := by rw [eσ_5]; exact up_s
  refine lv_dup C.1 C.2.1 dJ21_addEntryToEmptyMap_11 rfl ?_
  refine lv_aload_n C.1 C.2.1 dJ21_addEntryToEmptyMap_12 rfl (lv_at hl 1 rfl) ?_
  refine lv_aload_n C.1 C.2.1 dJ21_addEntryToEmptyMap_13 rfl (lv_at hl 2 rfl) ?_
  refine lv_null C.1 C.2.1 dJ21_addEntryToEmptyMap_14 ?_
  refine tl_cv (t_I (n := 3) C hml hS (m_En_init_n l X σ_5 q_4 a v he_8) q736 q737 q88 q738 rfl (by decide +kernel) rfl hl.1 rfl (Nat.le_of_ble_eq_true rfl) dJ21_addEntryToEmptyMap_15 ⟨Nat.le_of_ble_eq_true rfl, Nat.le_of_ble_eq_true rfl⟩ ⟨by show 0 + 1 + (0) ≤ 1; omega, by show 0 + 6 + (0) ≤ 6; omega⟩) hS (fun σ_11 H locs hP_10 hS => ?_)
  have hqT : T ≠ q_4 := fun z => by rw [← z, hT0] at hq_4; cases hq_4
  have heT : σ_11 T = some (oO 13 [.null, .null, .null, .null, .int (iI (n)), .int (iI (md)), .null, va_rf (ks), .null]) := by rw [hP_10, up_n hqT]; exact he_6
  refine gp_J21_101_13 C hS heT rfl rfl (Nat.le_of_ble_eq_true rfl) dJ21_addEntryToEmptyMap_18 (fun H locs hS => ?_)
  obtain ⟨σ_12, eσ_12⟩ : ∃ z, z = va_up σ_11 (T) (some (oO 13 [.null, .null, .null, .ref (q_4), .int (iI (n)), .int (iI (md)), .null, va_rf (ks), .null])) := ⟨_, rfl⟩
  have hS : tl_S X s σ_12 H locs := by rw [eσ_12]; exact hS
  have he_13 : σ_12 (T) = some (oO 13 [.null, .null, .null, .ref (q_4), .int (iI (n)), .int (iI (md)), .null, va_rf (ks), .null]) := by rw [eσ_12]; exact up_s
  refine lv_aload_n C.1 C.2.1 dJ21_addEntryToEmptyMap_21 rfl (lv_at hl 0 rfl) ?_
  refine ti_const C.1 C.2.1 dJ21_addEntryToEmptyMap_22 ?_
  refine gp_J21_7_13 C hS he_13 rfl rfl (Nat.le_of_ble_eq_true rfl) dJ21_addEntryToEmptyMap_23 (fun H locs hS => ?_)
  obtain ⟨σ_14, eσ_14⟩ : ∃ z, z = va_up σ_12 (T) (some (oO 13 [.null, .null, .null, .ref (q_4), .int (iI (1)), .int (iI (md)), .null, va_rf (ks), .null])) := ⟨_, rfl⟩
  have hS : tl_S X s σ_14 H locs := by rw [eσ_14]; exact hS
  have he_15 : σ_14 (T) = some (oO 13 [.null, .null, .null, .ref (q_4), .int (iI (1)), .int (iI (md)), .null, va_rf (ks), .null]) := by rw [eσ_14]; exact up_s
  refine lv_aload_n C.1 C.2.1 dJ21_addEntryToEmptyMap_26 rfl (lv_at hl 0 rfl) ?_
  refine lv_dup C.1 C.2.1 dJ21_addEntryToEmptyMap_27 rfl ?_
  refine gf_J21_13_13 C hS he_15 rfl dJ21_addEntryToEmptyMap_28 ?_
  refine ti_const C.1 C.2.1 dJ21_addEntryToEmptyMap_31 ?_
  refine ti_iadd C.1 C.2.1 dJ21_addEntryToEmptyMap_32 ?_
  refine gp_J21_13_13 C hS he_15 rfl rfl (Nat.le_of_ble_eq_true rfl) dJ21_addEntryToEmptyMap_33 (fun H locs hS => ?_)
  obtain ⟨σ_16, eσ_16⟩ : ∃ z, z = va_up σ_14 (T) (some (oO 13 [.null, .null, .null, .ref (q_4), .int (iI (1)), .int (iI ((md + 1))), .null, va_rf (ks), .null])) := ⟨_, rfl⟩
  have hS : tl_S X s σ_16 H locs := by rw [eσ_16]; exact hS
  have he_17 : σ_16 (T) = some (oO 13 [.null, .null, .null, .ref (q_4), .int (iI (1)), .int (iI ((md + 1))), .null, va_rf (ks), .null]) := by rw [eσ_16]; exact up_s
  refine W.widen (k := 1) (n := 6) (by omega) (by omega) ?_
  exact r_v C hr hlk hS ⟨q_4, hq_4, hBq_4, by rw [eσ_16, eσ_14, eσ_12, up_uu, up_uu, hP_10, eσ_5, up_uu]; rfl⟩ dJ21_addEntryToEmptyMap_36

