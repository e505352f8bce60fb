/-! ARRAYLIST and its iterator (printed by gen_list.py) -/
set_option maxRecDepth 100000
/-- a list's cell -/
abbrev cL (md : Int) (arr : Nat) (n : Int) : va_E := oO 9 [.int (iI md), .ref arr, .int (iI n)]
/-- the list at L holds the n references f 0 .. in the row arr of cap places -/
def AL (X : tl_X) (σ : tl_H) (L : Nat) (md n : Int) (f : Int → Nat) (arr cap : Nat) : Prop :=
  σ L = some (cL md arr n) ∧ (∃ g : Nat → Option Nat, σ arr = some (oQ (X.2.2.1 3) cap g) ∧ ∀ i : Int, 0 ≤ i → i < n → g i.toNat = some (f i)) ∧ 0 ≤ n ∧ n ≤ cap ∧ cap ≤ 1000 ∧ (cap = 0 → arr = X.2.2.2 0)
/-- its elements may lie in rows -/
def AO (σ : tl_H) (n : Int) (f : Int → Nat) : Prop := ∀ i : Int, 0 ≤ i → i < n → tl_ob σ (f i)
/-- what a list's change leaves: all but the list and its row; the row is the old one or a new one -/
def ALF (X : tl_X) (σ σ' : tl_H) (L arr arr' : Nat) : Prop := tl_fix X σ' ∧ (arr' = arr ∨ σ arr' = none) ∧ ∀ b e, σ b = some e → b ≠ L → b ≠ arr → σ' b = some e
theorem tl_ob.up {σ σ1 : tl_H} {a : Nat} {e : va_E} (eq : σ1 = va_up σ a (some e)) (hn : σ a = none ∨ ∃ x y, σ a = some (.inl x) ∧ e = .inl y) {v : Nat} (h : tl_ob σ v) : tl_ob σ1 v := by
  obtain ⟨ci, vs, q, h1, h2, h3⟩ := h
  refine ⟨ci, vs, q, ?_, h2, h3⟩
  rw [eq, up_n]
  · exact h1
  · intro z
    rw [z] at h1
    rcases hn with h | ⟨x, y, h, -⟩
    · rw [h] at h1; cases h1
    · rw [h] at h1; cases h1
set_option maxHeartbeats 4000000 in
theorem m_AC_init (l : Launch) (X : tl_X) (σ : tl_H) (a : Nat) : tl_Met l X yJ0_init cJ0_init 1 ((Option.none : Option FieldType)) 1 (0) (0) [.ref (a)] σ (tl_Qv X (fun σ' => σ = σ')) := by
  refine tl_start (by decide) (Nat.le_of_ble_eq_true rfl) (fun p e s m below meth c ls C hr hml hlk hnm hS hl => ?_)
  have hl : lv_has ls 1 [(0, .ref (a))] := hl
  refine lv_aload_n C.1 C.2.1 dJ0_init_0 rfl (lv_at hl 0 rfl) ?_
  refine h_obj C hml hl.1 q115 dJ0_init_1 (by show 1 ≤ 1; decide) (by show 40 ≤ 40 * 1; decide) (Nat.le_of_ble_eq_true rfl) ?_
  exact r_v C hr hlk hS rfl dJ0_init_4

theorem gp_J1_7_9 {p : Program} {l : Launch} {e : Env} {R : Room} {s : State} {m : MethodId} {args : Array Value} {below : List Frame} {meth : Method} {c : Code} {H : Heap} {locs : List Loc} {cells slots : Nat} {Q : State → Prop} {cc : ByteArray} {pc : Nat} {ls : Array Slot} {rest : List Value} {X : tl_X} {σ : tl_H} {a : Nat} {fs : List Value} {v : Value} (C : tl_C X p s m args c cc RJ1) (hS : tl_S X s σ H locs) (he : σ a = some (oO 9 fs)) (hn : narrow (tyJ2 0) v = v) (hfit : fits (tyJ2 0) v = true) (hl : 0 < fs.length) (hdg : decode cc pc = .ok (.putfield 7, 3)) (kk : ∀ (H1 : Heap) (locs1 : List Loc), tl_S X s (va_up σ a (some (oO 9 (fs.set 0 v)))) H1 locs1 → W p l e R s m args below meth c H1 locs1 cells slots Q (F0 m (pc + 3) ls rest)) : W p l e R s m args below meth c H locs cells slots Q (F0 m pc ls (v :: .ref a :: rest)) :=
  h_put (ref := "java/util/AbstractList") C hS in_J2 tyJ2 tyJ2_ok nmJ2 rfl 0 (by decide) q122 (fun _ h => h) rfl (by decide) he hn hfit hl hdg kk
set_option maxHeartbeats 4000000 in
theorem m_Ab_init_L (l : Launch) (X : tl_X) (σ : tl_H) (a : Nat) (x0 x2 : Int) (hw : X.2.1 ≤ a) (ha : σ a = some (oO 9 [.int (iI x0), .null, .int (iI x2)])) : tl_Met l X yJ1_init cJ1_init 1 ((Option.none : Option FieldType)) 2 (0) (0) [.ref (a)] σ (tl_Qv X (fun σ' => σ' = va_up σ a (some (oO 9 [.int (iI 0), .null, .int (iI x2)])))) := by
  refine tl_start (by decide) (Nat.le_of_ble_eq_true rfl) (fun p e s m below meth c ls C hr hml hlk hnm hS hl => ?_)
  have hl : lv_has ls 1 [(0, .ref (a))] := hl
  refine lv_aload_n C.1 C.2.1 dJ1_init_0 rfl (lv_at hl 0 rfl) ?_
  refine tl_cv (t_I (n := 0) C hml hS (m_AC_init l X σ (a)) q112 q113 q48 q114 rfl (by decide +kernel) rfl hl.1 rfl (Nat.le_of_ble_eq_true rfl) dJ1_init_1 ⟨Nat.le_of_ble_eq_true rfl, Nat.le_of_ble_eq_true rfl⟩ ⟨Nat.le_refl _, Nat.le_refl _⟩) hS (fun σ_3 H locs hP_2 hS => ?_)
  obtain rfl := hP_2
  refine lv_aload_n C.1 C.2.1 dJ1_init_4 rfl (lv_at hl 0 rfl) ?_
  refine ti_const C.1 C.2.1 dJ1_init_5 ?_
  refine gp_J1_7_9 C hS ha rfl rfl (Nat.le_of_ble_eq_true rfl) dJ1_init_6 (fun H locs hS => ?_)
  obtain ⟨σ_4, eσ_4⟩ : ∃ z, z = va_up σ (a) (some (oO 9 [.int (iI (0)), .null, .int (iI (x2))])) := ⟨_, rfl⟩
  have hS : tl_S X s σ_4 H locs := by rw [eσ_4]; exact hS
  have he_5 : σ_4 (a) = some (oO 9 [.int (iI (0)), .null, .int (iI (x2))]) := by rw [eσ_4]; exact up_s
  exact r_v C hr hlk hS (by rw [eσ_4]) dJ1_init_9

theorem gp_J1_7_11 {p : Program} {l : Launch} {e : Env} {R : Room} {s : State} {m : MethodId} {args : Array Value} {below : List Frame} {meth : Method} {c : Code} {H : Heap} {locs : List Loc} {cells slots : Nat} {Q : State → Prop} {cc : ByteArray} {pc : Nat} {ls : Array Slot} {rest : List Value} {X : tl_X} {σ : tl_H} {a : Nat} {fs : List Value} {v : Value} (C : tl_C X p s m args c cc RJ1) (hS : tl_S X s σ H locs) (he : σ a = some (oO 11 fs)) (hn : narrow (tyJ4 0) v = v) (hfit : fits (tyJ4 0) v = true) (hl : 0 < fs.length) (hdg : decode cc pc = .ok (.putfield 7, 3)) (kk : ∀ (H1 : Heap) (locs1 : List Loc), tl_S X s (va_up σ a (some (oO 11 (fs.set 0 v)))) H1 locs1 → W p l e R s m args below meth c H1 locs1 cells slots Q (F0 m (pc + 3) ls rest)) : W p l e R s m args below meth c H locs cells slots Q (F0 m pc ls (v :: .ref a :: rest)) :=
  h_put (ref := "java/util/AbstractList") C hS in_J4 tyJ4 tyJ4_ok nmJ4 rfl 0 (by decide) q122 (fun _ h => h) rfl (by decide) he hn hfit hl hdg kk
set_option maxHeartbeats 4000000 in
theorem m_Ab_init_K (l : Launch) (X : tl_X) (σ : tl_H) (a : Nat) (x0 x1 : Int) (hw : X.2.1 ≤ a) (ha : σ a = some (oO 11 [.int (iI x0), .int (iI x1), .null, .null])) : tl_Met l X yJ1_init cJ1_init 1 ((Option.none : Option FieldType)) 2 (0) (0) [.ref (a)] σ (tl_Qv X (fun σ' => σ' = va_up σ a (some (oO 11 [.int (iI 0), .int (iI x1), .null, .null])))) := by
  refine tl_start (by decide) (Nat.le_of_ble_eq_true rfl) (fun p e s m below meth c ls C hr hml hlk hnm hS hl => ?_)
  have hl : lv_has ls 1 [(0, .ref (a))] := hl
  refine lv_aload_n C.1 C.2.1 dJ1_init_0 rfl (lv_at hl 0 rfl) ?_
  refine tl_cv (t_I (n := 0) C hml hS (m_AC_init l X σ (a)) q112 q113 q48 q114 rfl (by decide +kernel) rfl hl.1 rfl (Nat.le_of_ble_eq_true rfl) dJ1_init_1 ⟨Nat.le_of_ble_eq_true rfl, Nat.le_of_ble_eq_true rfl⟩ ⟨Nat.le_refl _, Nat.le_refl _⟩) hS (fun σ_3 H locs hP_2 hS => ?_)
  obtain rfl := hP_2
  refine lv_aload_n C.1 C.2.1 dJ1_init_4 rfl (lv_at hl 0 rfl) ?_
  refine ti_const C.1 C.2.1 dJ1_init_5 ?_
  refine gp_J1_7_11 C hS ha rfl rfl (Nat.le_of_ble_eq_true rfl) dJ1_init_6 (fun H locs hS => ?_)
  obtain ⟨σ_4, eσ_4⟩ : ∃ z, z = va_up σ (a) (some (oO 11 [.int (iI (0)), .int (iI (x1)), .null, .null])) := ⟨_, rfl⟩
  have hS : tl_S X s σ_4 H locs := by rw [eσ_4]; exact hS
  have he_5 : σ_4 (a) = some (oO 11 [.int (iI (0)), .int (iI (x1)), .null, .null]) := by rw [eσ_4]; exact up_s
  exact r_v C hr hlk hS (by rw [eσ_4]) dJ1_init_9

theorem gp_J2_9_9 {p : Program} {l : Launch} {e : Env} {R : Room} {s : State} {m : MethodId} {args : Array Value} {below : List Frame} {meth : Method} {c : Code} {H : Heap} {locs : List Loc} {cells slots : Nat} {Q : State → Prop} {cc : ByteArray} {pc : Nat} {ls : Array Slot} {rest : List Value} {X : tl_X} {σ : tl_H} {a : Nat} {fs : List Value} {v : Value} (C : tl_C X p s m args c cc RJ2) (hS : tl_S X s σ H locs) (he : σ a = some (oO 9 fs)) (hn : narrow (tyJ2 1) v = v) (hfit : fits (tyJ2 1) v = true) (hl : 1 < fs.length) (hdg : decode cc pc = .ok (.putfield 9, 3)) (kk : ∀ (H1 : Heap) (locs1 : List Loc), tl_S X s (va_up σ a (some (oO 9 (fs.set 1 v)))) H1 locs1 → W p l e R s m args below meth c H1 locs1 cells slots Q (F0 m (pc + 3) ls rest)) : W p l e R s m args below meth c H locs cells slots Q (F0 m pc ls (v :: .ref a :: rest)) :=
  h_put (ref := "java/util/ArrayList") C hS in_J2 tyJ2 tyJ2_ok nmJ2 rfl 1 (by decide) q118 (fun _ h => h) rfl (by decide) he hn hfit hl hdg kk
set_option maxHeartbeats 4000000 in
theorem m_AL_init (l : Launch) (X : tl_X) (σ : tl_H) (a : Nat) (hw : X.2.1 ≤ a) (ha : σ a = some (oO 9 [.int (iI 0), .null, .int (iI 0)])) : tl_Met l X yJ2_init cJ2_init 1 ((Option.none : Option FieldType)) 3 (0) (0) [.ref (a)] σ (tl_Qv X (fun σ' => σ' = va_up σ a (some (cL 0 (X.2.2.2 0) 0)))) := by
  refine tl_start (by decide) (Nat.le_of_ble_eq_true rfl) (fun p e s m below meth c ls C hr hml hlk hnm hS hl => ?_)
  have hl : lv_has ls 1 [(0, .ref (a))] := hl
  refine lv_aload_n C.1 C.2.1 dJ2_init_0 rfl (lv_at hl 0 rfl) ?_
  refine tl_cv (t_I (n := 0) C hml hS (m_Ab_init_L l X σ a 0 0 hw ha) q109 q110 q49 q111 rfl (by decide +kernel) rfl hl.1 rfl (Nat.le_of_ble_eq_true rfl) dJ2_init_1 ⟨Nat.le_of_ble_eq_true rfl, Nat.le_of_ble_eq_true rfl⟩ ⟨Nat.le_refl _, Nat.le_refl _⟩) hS (fun σ_3 H locs hP_2 hS => ?_)
  have he_4 : σ_3 (a) = some (oO 9 [.int (iI (0)), .null, .int (iI (0))]) := by rw [hP_2]; exact up_s
  refine lv_aload_n C.1 C.2.1 dJ2_init_4 rfl (lv_at hl 0 rfl) ?_
  refine h_gets C hS C.2.2.2.2.2.2.1 q116 rfl dJ2_init_5 ?_
  refine gp_J2_9_9 C hS he_4 rfl rfl (Nat.le_of_ble_eq_true rfl) dJ2_init_8 (fun H locs hS => ?_)
  obtain ⟨σ_5, eσ_5⟩ : ∃ z, z = va_up σ_3 (a) (some (oO 9 [.int (iI (0)), .ref (X.2.2.2 0), .int (iI (0))])) := ⟨_, rfl⟩
  have hS : tl_S X s σ_5 H locs := by rw [eσ_5]; exact hS
  have he_6 : σ_5 (a) = some (oO 9 [.int (iI (0)), .ref (X.2.2.2 0), .int (iI (0))]) := by rw [eσ_5]; exact up_s
  exact r_v C hr hlk hS (by rw [eσ_5, hP_2, up_uu]) dJ2_init_11

theorem gf_J2_48_9 {p : Program} {l : Launch} {e : Env} {R : Room} {s : State} {m : MethodId} {args : Array Value} {below : List Frame} {meth : Method} {c : Code} {H : Heap} {locs : List Loc} {cells slots : Nat} {Q : State → Prop} {cc : ByteArray} {pc : Nat} {ls : Array Slot} {rest : List Value} {X : tl_X} {σ : tl_H} {a : Nat} {fs : List Value} {v : Value} (C : tl_C X p s m args c cc RJ2) (hS : tl_S X s σ H locs) (he : σ a = some (oO 9 fs)) (hv : fs[2]? = some v) (hdg : decode cc pc = .ok (.getfield 48, 3)) (kk : W p l e R s m args below meth c H locs cells slots Q (F0 m (pc + 3) ls (v :: rest))) : W p l e R s m args below meth c H locs cells slots Q (F0 m pc ls (.ref a :: rest)) :=
  h_get (ref := "java/util/ArrayList") C hS in_J2 rfl 2 (by decide) q121 (fun _ h => h) he hv hdg kk
set_option maxHeartbeats 4000000 in
theorem m_AL_size (l : Launch) (X : tl_X) (σ : tl_H) (L : Nat) (md n : Int) (f : Int → Nat) (arr cap : Nat) (hAL : AL X σ L md n f arr cap)  : tl_Met l X yJ2_size cJ2_size 1 ((Option.some FieldType.int)) 1 (0) (0) [.ref (L)] σ (tl_Qi X (fun r σ' => r = iI (n) ∧ σ = σ')) := by
  obtain ⟨hL, ⟨g, hA, hg⟩, hn0, hnc, hc, hz⟩ := hAL
  refine tl_start (by decide) (Nat.le_of_ble_eq_true rfl) (fun p e s m below meth c ls C hr hml hlk hnm hS hl => ?_)
  have hl : lv_has ls 1 [(0, .ref (L))] := hl
  refine lv_aload_n C.1 C.2.1 dJ2_size_0 rfl (lv_at hl 0 rfl) ?_
  refine gf_J2_48_9 C hS hL rfl dJ2_size_1 ?_
  exact r_i C hr hlk hS ⟨rfl, rfl⟩ dJ2_size_4

set_option maxHeartbeats 4000000 in
theorem m_AL_isEmpty (l : Launch) (X : tl_X) (σ : tl_H) (L : Nat) (md n : Int) (f : Int → Nat) (arr cap : Nat) (hAL : AL X σ L md n f arr cap)  : tl_Met l X yJ2_isEmpty cJ2_isEmpty 1 ((Option.some FieldType.boolean)) 1 (0) (0) [.ref (L)] σ (tl_Qi X (fun r σ' => r = iI (tb (decide (n = 0))) ∧ σ = σ')) := by
  obtain ⟨hL, ⟨g, hA, hg⟩, hn0, hnc, hc, hz⟩ := hAL
  refine tl_start (by decide) (Nat.le_of_ble_eq_true rfl) (fun p e s m below meth c ls C hr hml hlk hnm hS hl => ?_)
  have hl : lv_has ls 1 [(0, .ref (L))] := hl
  refine lv_aload_n C.1 C.2.1 dJ2_isEmpty_0 rfl (lv_at hl 0 rfl) ?_
  refine gf_J2_48_9 C hS hL rfl dJ2_isEmpty_1 ?_
  refine ti_if_ne (tgt := 11) C.1 C.2.1 dJ2_isEmpty_4 (by decide) ⟨by omega, by omega⟩ (fun hc_1 => ?_) (fun hc_1 => ?_)
  · skip
    refine ti_const C.1 C.2.1 dJ2_isEmpty_11 ?_
    exact r_z (z := 0) C hr hlk hS (by first | exact tb01 _ | omega | decide) ⟨congrArg iI (tb_f (by omega)).symm, rfl⟩ dJ2_isEmpty_12
  · skip
    refine ti_const C.1 C.2.1 dJ2_isEmpty_7 ?_
    refine lv_goto (tgt := 12) C.1 C.2.1 dJ2_isEmpty_8 (by decide) ?_
    exact r_z (z := 1) C hr hlk hS (by first | exact tb01 _ | omega | decide) ⟨congrArg iI (tb_t (by omega)).symm, rfl⟩ dJ2_isEmpty_12

theorem gf_J2_9_9 {p : Program} {l : Launch} {e : Env} {R : Room} {s : State} {m : MethodId} {args : Array Value} {below : List Frame} {meth : Method} {c : Code} {H : Heap} {locs : List Loc} {cells slots : Nat} {Q : State → Prop} {cc : ByteArray} {pc : Nat} {ls : Array Slot} {rest : List Value} {X : tl_X} {σ : tl_H} {a : Nat} {fs : List Value} {v : Value} (C : tl_C X p s m args c cc RJ2) (hS : tl_S X s σ H locs) (he : σ a = some (oO 9 fs)) (hv : fs[1]? = some v) (hdg : decode cc pc = .ok (.getfield 9, 3)) (kk : W p l e R s m args below meth c H locs cells slots Q (F0 m (pc + 3) ls (v :: rest))) : W p l e R s m args below meth c H locs cells slots Q (F0 m pc ls (.ref a :: rest)) :=
  h_get (ref := "java/util/ArrayList") C hS in_J2 rfl 1 (by decide) q118 (fun _ h => h) he hv hdg kk
set_option maxHeartbeats 4000000 in
theorem m_AL_elementData (l : Launch) (X : tl_X) (σ : tl_H) (L : Nat) (md n : Int) (f : Int → Nat) (arr cap : Nat) (hAL : AL X σ L md n f arr cap) (i : Int) (hi : 0 ≤ i ∧ i < n) : tl_Met l X yJ2_elementData cJ2_elementData 2 ((Option.some (FieldType.object "java/lang/Object"))) 1 (0) (0) [.ref (L), .int (iI (i))] σ (tl_Qq X (fun r σ' => r = some (f i) ∧ σ = σ')) := by
  obtain ⟨hL, ⟨g, hA, hg⟩, hn0, hnc, hc, hz⟩ := hAL
  refine tl_start (by decide) (Nat.le_of_ble_eq_true rfl) (fun p e s m below meth c ls C hr hml hlk hnm hS hl => ?_)
  have hl : lv_has ls 2 [(0, .ref (L)), (1, .int (iI (i)))] := hl
  refine lv_aload_n C.1 C.2.1 dJ2_elementData_0 rfl (lv_at hl 0 rfl) ?_
  refine gf_J2_9_9 C hS hL rfl dJ2_elementData_1 ?_
  refine lv_iload_n C.1 C.2.1 dJ2_elementData_4 rfl (lv_at hl 1 rfl) ?_
  refine h_aaldY C hS hA (hg (i) (by omega) (by omega)) (by omega) (by omega) (by omega) dJ2_elementData_5 ?_
  exact r_q (v := (some (f (i)))) C hr (by first | exact Or.inl ⟨_, rfl⟩ | exact Or.inr ⟨_, rfl⟩) hlk hS ⟨rfl, rfl⟩ dJ2_elementData_6

set_option maxHeartbeats 4000000 in
theorem m_checkIndex (l : Launch) (X : tl_X) (σ : tl_H) (i n : Int) (hi : 0 ≤ i ∧ i < n) (hn : n ≤ 1000000) : tl_Met l X yJ17_checkIndex cJ17_checkIndex 3 ((Option.some FieldType.int)) 1 (0) (0) [.int (iI (i)), .int (iI (n)), .null] σ (tl_Qi X (fun r σ' => r = iI (i) ∧ σ = σ')) := by
  refine tl_start (by decide) (Nat.le_of_ble_eq_true rfl) (fun p e s m below meth c ls C hr hml hlk hnm hS hl => ?_)
  have hl : lv_has ls 3 [(0, .int (iI (i))), (1, .int (iI (n))), (2, .null)] := hl
  refine lv_iload_n C.1 C.2.1 dJ17_checkIndex_0 rfl (lv_at hl 0 rfl) ?_
  refine ti_if_lt (tgt := 9) C.1 C.2.1 dJ17_checkIndex_1 (by decide) ⟨by omega, by omega⟩ (fun hc_1 => ?_) (fun hc_1 => ?_)
  · skip
    exfalso; omega
  · skip
    refine lv_iload_n C.1 C.2.1 dJ17_checkIndex_4 rfl (lv_at hl 0 rfl) ?_
    refine lv_iload_n C.1 C.2.1 dJ17_checkIndex_5 rfl (lv_at hl 1 rfl) ?_
    refine ti_icmp_lt (tgt := 16) C.1 C.2.1 dJ17_checkIndex_6 (by decide) ⟨by omega, by omega⟩ ⟨by omega, by omega⟩ (fun hc_2 => ?_) (fun hc_2 => ?_)
    · skip
      refine lv_iload_n C.1 C.2.1 dJ17_checkIndex_16 rfl (lv_at hl 0 rfl) ?_
      exact r_i C hr hlk hS ⟨rfl, rfl⟩ dJ17_checkIndex_17
    · skip
      exfalso; omega

set_option maxHeartbeats 4000000 in
theorem m_checkIndex2 (l : Launch) (X : tl_X) (σ : tl_H) (i n : Int) (hi : 0 ≤ i ∧ i < n) (hn : n ≤ 1000000) : tl_Met l X yJ16_checkIndex cJ16_checkIndex 2 ((Option.some FieldType.int)) 2 (0) (0) [.int (iI (i)), .int (iI (n))] σ (tl_Qi X (fun r σ' => r = iI (i) ∧ σ = σ')) := by
  refine tl_start (by decide) (Nat.le_of_ble_eq_true rfl) (fun p e s m below meth c ls C hr hml hlk hnm hS hl => ?_)
  have hl : lv_has ls 2 [(0, .int (iI (i))), (1, .int (iI (n)))] := hl
  refine lv_iload_n C.1 C.2.1 dJ16_checkIndex_0 rfl (lv_at hl 0 rfl) ?_
  refine lv_iload_n C.1 C.2.1 dJ16_checkIndex_1 rfl (lv_at hl 1 rfl) ?_
  refine lv_null C.1 C.2.1 dJ16_checkIndex_2 ?_
  refine tl_ci (t_S (n := 3) C hml hS (m_checkIndex l X σ i n hi hn) q322 q323 q68 q324 (by decide +kernel) rfl hl.1 rfl (Nat.le_of_ble_eq_true rfl) dJ16_checkIndex_3 ⟨Nat.le_of_ble_eq_true rfl, Nat.le_of_ble_eq_true rfl⟩ ⟨Nat.le_refl _, Nat.le_refl _⟩) hS (fun r_1 σ_3 H locs hP_2 hS => ?_)
  obtain ⟨rfl, rfl⟩ := hP_2
  exact r_i C hr hlk hS ⟨rfl, rfl⟩ dJ16_checkIndex_6

set_option maxHeartbeats 4000000 in
theorem m_AL_get (l : Launch) (X : tl_X) (σ : tl_H) (L : Nat) (md n : Int) (f : Int → Nat) (arr cap : Nat) (hAL : AL X σ L md n f arr cap) (i : Int) (hi : 0 ≤ i ∧ i < n) : tl_Met l X yJ2_get cJ2_get 2 ((Option.some (FieldType.object "java/lang/Object"))) 3 (0) (0) [.ref (L), .int (iI (i))] σ (tl_Qq X (fun r σ' => r = some (f i) ∧ σ = σ')) := by
  obtain ⟨hL, ⟨g, hA, hg⟩, hn0, hnc, hc, hz⟩ := hAL
  refine tl_start (by decide) (Nat.le_of_ble_eq_true rfl) (fun p e s m below meth c ls C hr hml hlk hnm hS hl => ?_)
  have hl : lv_has ls 2 [(0, .ref (L)), (1, .int (iI (i)))] := hl
  refine lv_iload_n C.1 C.2.1 dJ2_get_0 rfl (lv_at hl 1 rfl) ?_
  refine lv_aload_n C.1 C.2.1 dJ2_get_1 rfl (lv_at hl 0 rfl) ?_
  refine gf_J2_48_9 C hS hL rfl dJ2_get_2 ?_
  refine tl_ci (t_S (n := 2) C hml hS (m_checkIndex2 l X σ i n hi (by omega)) q319 q320 q67 q321 (by decide +kernel) rfl hl.1 rfl (Nat.le_of_ble_eq_true rfl) dJ2_get_5 ⟨Nat.le_of_ble_eq_true rfl, Nat.le_of_ble_eq_true rfl⟩ ⟨Nat.le_refl _, Nat.le_refl _⟩) hS (fun r_1 σ_3 H locs hP_2 hS => ?_)
  obtain ⟨rfl, rfl⟩ := hP_2
  refine lv_pop C.1 C.2.1 dJ2_get_8 rfl ?_
  refine lv_aload_n C.1 C.2.1 dJ2_get_9 rfl (lv_at hl 0 rfl) ?_
  refine lv_iload_n C.1 C.2.1 dJ2_get_10 rfl (lv_at hl 1 rfl) ?_
  refine tl_cq (t_V (n := 1) (ci := 9) C hml hS (m_AL_elementData l X σ L md n f arr cap ⟨hL, ⟨g, hA, hg⟩, hn0, hnc, hc, hz⟩ i hi) q325 q326 q327 q50 q328 (by decide +kernel) hL rfl rfl hl.1 rfl (Nat.le_of_ble_eq_true rfl) dJ2_get_11 ⟨Nat.le_of_ble_eq_true rfl, Nat.le_of_ble_eq_true rfl⟩ ⟨Nat.le_refl _, Nat.le_refl _⟩) hS (fun r_4 σ_6 H locs hP_5 hS => ?_)
  obtain ⟨rfl, rfl⟩ := hP_5
  exact r_q (v := (some (f i))) C hr (by first | exact Or.inl ⟨_, rfl⟩ | exact Or.inr ⟨_, rfl⟩) hlk hS ⟨rfl, rfl⟩ dJ2_get_14

set_option maxHeartbeats 4000000 in
theorem m_newLength (l : Launch) (X : tl_X) (σ : tl_H) (x y z : Int) (hx : 0 ≤ x ∧ x ≤ 1000000) (hy : 0 < y ∧ y ≤ 1000000) (hz : 0 ≤ z ∧ z ≤ 1000000) : tl_Met l X yJ10_newLength cJ10_newLength 4 ((Option.some FieldType.int)) 1 (0) (0) [.int (iI (x)), .int (iI (y)), .int (iI (z))] σ (tl_Qi X (fun r σ' => r = iI (x + max y z) ∧ σ = σ')) := by
  refine tl_start (by decide) (Nat.le_of_ble_eq_true rfl) (fun p e s m below meth c ls C hr hml hlk hnm hS hl => ?_)
  have hl : lv_has ls 4 [(0, .int (iI (x))), (1, .int (iI (y))), (2, .int (iI (z)))] := hl
  refine lv_iload_n C.1 C.2.1 dJ10_newLength_0 rfl (lv_at hl 0 rfl) ?_
  refine lv_iload_n C.1 C.2.1 dJ10_newLength_1 rfl (lv_at hl 1 rfl) ?_
  refine lv_iload_n C.1 C.2.1 dJ10_newLength_2 rfl (lv_at hl 2 rfl) ?_
  refine ti_max C hml hl.1 q965 ⟨by omega, by omega⟩ ⟨by omega, by omega⟩ dJ10_newLength_3 (by show 1 ≤ 1; decide) (by show 40 ≤ 40 * 1; decide) (Nat.le_of_ble_eq_true rfl) (Nat.le_refl _) (Nat.le_refl _) ?_
  refine ti_iadd C.1 C.2.1 dJ10_newLength_6 ?_
  refine lv_istore_n (lv' := [(3, .int (iI ((x + (max (y) (z)))))), (0, .int (iI (x))), (1, .int (iI (y))), (2, .int (iI (z)))]) C.1 C.2.1 dJ10_newLength_7 rfl hl (by decide) rfl (fun ls hl => ?_)
  refine ti_const C.1 C.2.1 dJ10_newLength_8 ?_
  refine lv_iload_n C.1 C.2.1 dJ10_newLength_9 rfl (lv_at hl 0 rfl) ?_
  refine ti_icmp_ge (tgt := 21) C.1 C.2.1 dJ10_newLength_10 (by decide) ⟨by decide, by decide⟩ ⟨by omega, by omega⟩ (fun hc_1 => ?_) (fun hc_1 => ?_)
  · skip
    exfalso; omega
  · skip
    refine lv_iload_n C.1 C.2.1 dJ10_newLength_13 rfl (lv_at hl 0 rfl) ?_
    refine lv_ldc (v := iI (2147483639)) C.1 C.2.1 C.2.2.1 (C.2.2.2.1 _ q966) dJ10_newLength_14 ?_
    refine ti_icmp_gt (tgt := 21) C.1 C.2.1 dJ10_newLength_16 (by decide) ⟨by omega, by omega⟩ ⟨by decide, by decide⟩ (fun hc_2 => ?_) (fun hc_2 => ?_)
    · skip
      exfalso; omega
    · skip
      refine lv_iload_n C.1 C.2.1 dJ10_newLength_19 rfl (lv_at hl 0 rfl) ?_
      exact r_i C hr hlk hS ⟨rfl, rfl⟩ dJ10_newLength_20

set_option maxHeartbeats 4000000 in
theorem m_copyOf2 (l : Launch) (X : tl_X) (σ : tl_H) (arr cap N : Nat) (g : Nat → Option Nat) (hA : σ arr = some (oQ (X.2.2.1 3) cap g)) (hN : cap ≤ N ∧ 0 < N ∧ N ≤ 1000) (hob : ∀ i : Nat, i < cap → ∀ y : Nat, g i = some y → tl_ob σ y) : tl_Met l X yJ12_copyOf_2 cJ12_copyOf_2 4 ((Option.some (FieldType.array (FieldType.object "java/lang/Object")))) 1 (1) (1000) [.ref (arr), .int (iI ((N : Int))), .ref (X.2.2.2 259)] σ (tl_Qq X (fun r σ' => ∃ (q : Nat) (h : Nat → Option Nat), r = some q ∧ σ q = none ∧ X.2.1 ≤ q ∧ σ' = va_up σ q (some (oQ (X.2.2.1 3) N h)) ∧ ∀ i : Nat, i < cap → h i = g i)) := by
  refine tl_start (by decide) (Nat.le_of_ble_eq_true rfl) (fun p e s m below meth c ls C hr hml hlk hnm hS hl => ?_)
  have hl : lv_has ls 4 [(0, .ref (arr)), (1, .int (iI ((N : Int)))), (2, .ref (X.2.2.2 259))] := hl
  refine lv_aload_n C.1 C.2.1 dJ12_copyOf_2_0 rfl (lv_at hl 2 rfl) ?_
  refine h_ldcM C q1007 dJ12_copyOf_2_1 ?_
  refine lv_acmp_ne (tgt := 13) (rx := (some (X.2.2.2 259))) (ry := (some (X.2.2.2 259))) C.1 C.2.1 dJ12_copyOf_2_3 (by decide) (fun hc_1 => ?_) (fun hc_1 => ?_)
  · skip
    exact absurd rfl hc_1
  · skip
    refine lv_iload_n C.1 C.2.1 dJ12_copyOf_2_6 rfl (lv_at hl 1 rfl) ?_
    refine h_newq C hS q1009 (by omega) (by omega) (by show 0 + 1 ≤ 1; omega) (by show 0 + ((N : Int)).toNat ≤ 1000; omega) dJ12_copyOf_2_7 (fun q_2 H hS hq_2 hBq_2 => ?_)
    obtain ⟨σ_3, eσ_3⟩ : ∃ z, z = va_up σ q_2 (some (oQ (X.2.2.1 3) ((N : Int)).toNat (fun _ => none))) := ⟨_, rfl⟩
    rw [← eσ_3] at hS
    have he_4 := up_kq eσ_3 hq_2 hA
    have he_5 : σ_3 q_2 = some (oQ (X.2.2.1 3) ((N : Int)).toNat (fun _ => none)) := by rw [eσ_3]; exact up_s
    refine lv_goto (tgt := 24) C.1 C.2.1 dJ12_copyOf_2_10 (by decide) ?_
    refine lv_astore_n (lv' := [(3, .ref (q_2)), (0, .ref (arr)), (1, .int (iI ((N : Int)))), (2, .ref (X.2.2.2 259))]) C.1 C.2.1 dJ12_copyOf_2_24 rfl hl (by decide) rfl (fun ls hl => ?_)
    refine lv_aload_n C.1 C.2.1 dJ12_copyOf_2_25 rfl (lv_at hl 1 rfl) ?_
    refine ti_const C.1 C.2.1 dJ12_copyOf_2_26 ?_
    refine lv_aload_n C.1 C.2.1 dJ12_copyOf_2_27 rfl (lv_at hl 0 rfl) ?_
    refine ti_const C.1 C.2.1 dJ12_copyOf_2_28 ?_
    refine lv_aload_n C.1 C.2.1 dJ12_copyOf_2_29 rfl (lv_at hl 1 rfl) ?_
    refine h_alenQ C hS he_4 dJ12_copyOf_2_30 ?_
    refine lv_iload_n C.1 C.2.1 dJ12_copyOf_2_31 rfl (lv_at hl 2 rfl) ?_
    refine ti_min C hml hl.1 q1010 ⟨by omega, by omega⟩ ⟨by omega, by omega⟩ dJ12_copyOf_2_32 (by show 1 ≤ 1; decide) (by show 40 ≤ 40 * 1; decide) (Nat.le_of_ble_eq_true rfl) (by show 0 + 1 ≤ 1; omega) (by show 0 + ((N : Int)).toNat ≤ 1000; omega) ?_
    refine h_copyq C hS hml hl.1 q1011 he_4 he_5 (by omega) (by omega) (by omega) (by omega) (by omega) (by omega) (by omega) (by omega) (fun i hi y hy => tl_ob.up eσ_3 (Or.inl hq_2) (hob i (by omega) y (by simpa using hy))) (by show 1 ≤ 1; decide) (by show 40 ≤ 40 * 1; decide) (Nat.le_of_ble_eq_true rfl) dJ12_copyOf_2_35 (fun H locs hS => ?_)
    obtain ⟨σ_6, eσ_6⟩ : ∃ z, z = va_up σ_3 (q_2) (some (oQ (X.2.2.1 3) ((N : Int)).toNat (va_cpy g (fun _ => none) (0 : Int).toNat (0 : Int).toNat ((min ((cap : Int)) ((N : Int))) : Int).toNat))) := ⟨_, rfl⟩
    rw [← eσ_6] at hS
    have he_7 := up_kp eσ_6 (fun z => by rw [z, hq_2] at hA; cases hA) he_4
    have he_8 : σ_6 (q_2) = some (oQ (X.2.2.1 3) ((N : Int)).toNat (va_cpy g (fun _ => none) (0 : Int).toNat (0 : Int).toNat ((min ((cap : Int)) ((N : Int))) : Int).toNat)) := by rw [eσ_6]; exact up_s
    refine lv_aload_n C.1 C.2.1 dJ12_copyOf_2_38 rfl (lv_at hl 0 rfl) ?_
    refine W.widen (k := 1) (n := 1000) (by omega) (by omega) ?_
    exact r_q (v := (some (q_2))) C hr (by first | exact Or.inl ⟨_, rfl⟩ | exact Or.inr ⟨_, rfl⟩) hlk hS ⟨q_2, va_cpy g (fun _ => none) 0 0 (min (cap : Int) N).toNat, rfl, hq_2, hBq_2, (by rw [eσ_6, eσ_3, up_uu]; simp), (fun i hi => by show (if _ then _ else _) = _; rw [if_pos ⟨Nat.zero_le _, by omega⟩]; simp)⟩ dJ12_copyOf_2_39

set_option maxHeartbeats 4000000 in
theorem m_copyOf (l : Launch) (X : tl_X) (σ : tl_H) (arr cap N : Nat) (g : Nat → Option Nat) (hA : σ arr = some (oQ (X.2.2.1 3) cap g)) (hN : cap ≤ N ∧ 0 < N ∧ N ≤ 1000) (hob : ∀ i : Nat, i < cap → ∀ y : Nat, g i = some y → tl_ob σ y) : tl_Met l X yJ12_copyOf cJ12_copyOf 2 ((Option.some (FieldType.array (FieldType.object "java/lang/Object")))) 2 (1) (1000) [.ref (arr), .int (iI ((N : Int)))] σ (tl_Qq X (fun r σ' => ∃ (q : Nat) (h : Nat → Option Nat), r = some q ∧ σ q = none ∧ X.2.1 ≤ q ∧ σ' = va_up σ q (some (oQ (X.2.2.1 3) N h)) ∧ ∀ i : Nat, i < cap → h i = g i)) := by
  refine tl_start (by decide) (Nat.le_of_ble_eq_true rfl) (fun p e s m below meth c ls C hr hml hlk hnm hS hl => ?_)
  have hl : lv_has ls 2 [(0, .ref (arr)), (1, .int (iI ((N : Int))))] := hl
  refine lv_aload_n C.1 C.2.1 dJ12_copyOf_0 rfl (lv_at hl 0 rfl) ?_
  refine lv_iload_n C.1 C.2.1 dJ12_copyOf_1 rfl (lv_at hl 1 rfl) ?_
  refine lv_aload_n C.1 C.2.1 dJ12_copyOf_2 rfl (lv_at hl 0 rfl) ?_
  refine h_getC C hS hml hl.1 q973 hA (by show 1 ≤ 2; decide) (by show 40 ≤ 40 * 2; decide) (Nat.le_of_ble_eq_true rfl) dJ12_copyOf_3 ?_
  refine tl_cq (t_S (n := 3) C hml hS (m_copyOf2 l X σ arr cap N g hA hN hob) q1004 q1005 q62 q1006 (by decide +kernel) rfl hl.1 rfl (Nat.le_of_ble_eq_true rfl) dJ12_copyOf_6 ⟨Nat.le_of_ble_eq_true rfl, Nat.le_of_ble_eq_true rfl⟩ ⟨by show 0 + (1) ≤ 1; omega, by show 0 + (1000) ≤ 1000; omega⟩) hS (fun r_1 σ_3 H locs hP_2 hS => ?_)
  refine W.widen (k := 1) (n := 1000) (by omega) (by omega) ?_
  exact r_q (v := (r_1)) C hr (by first | exact Or.inl ⟨_, rfl⟩ | exact Or.inr ⟨_, rfl⟩) hlk hS hP_2 dJ12_copyOf_9

set_option maxHeartbeats 4000000 in
theorem m_AL_grow2 (l : Launch) (X : tl_X) (σ : tl_H) (L : Nat) (md n : Int) (f : Int → Nat) (arr cap : Nat) (hAL : AL X σ L md n f arr cap) (hfull : n = cap) (hn6 : n ≤ 600) (hO : AO σ n f) : tl_Met l X yJ2_grow_2 cJ2_grow_2 4 ((Option.some (FieldType.array (FieldType.object "java/lang/Object")))) 3 (1) (1000) [.ref (L), .int (iI ((n + 1)))] σ (tl_Qq X (fun r σ' => ∃ (q cap' : Nat) (h : Nat → Option Nat), r = some q ∧ σ q = none ∧ X.2.1 ≤ q ∧ n < cap' ∧ cap' ≤ 1000 ∧ σ' = va_up (va_up σ q (some (oQ (X.2.2.1 3) cap' h))) L (some (cL md q n)) ∧ ∀ i : Int, 0 ≤ i → i < n → h i.toNat = some (f i))) := by
  obtain ⟨hL, ⟨g, hA, hg⟩, hn0, hnc, hc, hz⟩ := hAL
  refine tl_start (by decide) (Nat.le_of_ble_eq_true rfl) (fun p e s m below meth c ls C hr hml hlk hnm hS hl => ?_)
  have hl : lv_has ls 4 [(0, .ref (L)), (1, .int (iI ((n + 1))))] := hl
  refine lv_aload_n C.1 C.2.1 dJ2_grow_2_0 rfl (lv_at hl 0 rfl) ?_
  refine gf_J2_9_9 C hS hL rfl dJ2_grow_2_1 ?_
  refine h_alenQ C hS hA dJ2_grow_2_4 ?_
  refine lv_istore_n (lv' := [(2, .int (iI ((cap : Int)))), (0, .ref (L)), (1, .int (iI ((n + 1))))]) C.1 C.2.1 dJ2_grow_2_5 rfl hl (by decide) rfl (fun ls hl => ?_)
  refine lv_iload_n C.1 C.2.1 dJ2_grow_2_6 rfl (lv_at hl 0 rfl) ?_
  refine ti_if_gt (tgt := 20) C.1 C.2.1 dJ2_grow_2_7 (by decide) ⟨by omega, by omega⟩ (fun hc_1 => ?_) (fun hc_1 => ?_)
  · skip
    refine lv_iload_n C.1 C.2.1 dJ2_grow_2_20 rfl (lv_at hl 0 rfl) ?_
    refine lv_iload_n C.1 C.2.1 dJ2_grow_2_21 rfl (lv_at hl 2 rfl) ?_
    refine lv_iload_n C.1 C.2.1 dJ2_grow_2_22 rfl (lv_at hl 0 rfl) ?_
    refine ti_isub C.1 C.2.1 dJ2_grow_2_23 ?_
    refine lv_iload_n C.1 C.2.1 dJ2_grow_2_24 rfl (lv_at hl 0 rfl) ?_
    refine ti_const C.1 C.2.1 dJ2_grow_2_25 ?_
    refine ti_ishr1 C.1 C.2.1 (by omega) (by omega) dJ2_grow_2_26 ?_
    refine tl_ci (t_S (n := 3) C hml hS (m_newLength l X σ ((cap : Int)) (((n + 1) - (cap : Int))) (((cap : Int) / 2)) (by omega) (by omega) (by omega)) q962 q963 q60 q964 (by decide +kernel) rfl hl.1 rfl (Nat.le_of_ble_eq_true rfl) dJ2_grow_2_27 ⟨Nat.le_of_ble_eq_true rfl, Nat.le_of_ble_eq_true rfl⟩ ⟨by show 0 + (0) ≤ 1; omega, by show 0 + (0) ≤ 1000; omega⟩) hS (fun r_2 σ_4 H locs hP_3 hS => ?_)
    obtain ⟨rfl, rfl⟩ := hP_3
    refine lv_istore_n (lv' := [(3, .int (iI (((cap : Int) + max (((n + 1) - (cap : Int))) (((cap : Int) / 2)))))), (2, .int (iI ((cap : Int)))), (0, .ref (L)), (1, .int (iI ((n + 1))))]) C.1 C.2.1 dJ2_grow_2_30 rfl hl (by decide) rfl (fun ls hl => ?_)
    refine lv_aload_n C.1 C.2.1 dJ2_grow_2_31 rfl (lv_at hl 2 rfl) ?_
    refine lv_aload_n C.1 C.2.1 dJ2_grow_2_32 rfl (lv_at hl 2 rfl) ?_
    refine gf_J2_9_9 C hS hL rfl dJ2_grow_2_33 ?_
    refine lv_iload_n C.1 C.2.1 dJ2_grow_2_36 rfl (lv_at hl 0 rfl) ?_
    obtain ⟨N, hN⟩ : ∃ N : Nat, ((cap : Int) + max (n + 1 - cap) (cap / 2)) = (N : Int) := ⟨((cap : Int) + max (n + 1 - cap) (cap / 2)).toNat, by omega⟩
    rw [hN]
    refine tl_cq (t_S (n := 2) C hml hS (m_copyOf l X σ arr cap N g hA (by omega) (fun i hi y hy => by have := hg i (by omega) (by omega); rw [Int.toNat_natCast, hy] at this; cases this; exact hO i (by omega) (by omega))) q970 q971 q62 q972 (by decide +kernel) rfl hl.1 rfl (Nat.le_of_ble_eq_true rfl) dJ2_grow_2_37 ⟨Nat.le_of_ble_eq_true rfl, Nat.le_of_ble_eq_true rfl⟩ ⟨by show 0 + (1) ≤ 1; omega, by show 0 + (1000) ≤ 1000; omega⟩) hS (fun r_5 σ_7 H locs hP_6 hS => ?_)
    obtain ⟨q, h, rfl, hq, hB, eh, hh⟩ := hP_6
    have he_8 := up_kq eh hq hL
    have he_9 := up_kq eh hq hA
    refine lv_dup_x1 C.1 C.2.1 dJ2_grow_2_40 rfl rfl ?_
    refine gp_J2_9_9 C hS he_8 rfl rfl (Nat.le_of_ble_eq_true rfl) dJ2_grow_2_41 (fun H locs hS => ?_)
    obtain ⟨σ_10, eσ_10⟩ : ∃ z, z = va_up σ_7 (L) (some (oO 9 [.int (iI (md)), .ref (q), .int (iI (n))])) := ⟨_, rfl⟩
    have hS : tl_S X s σ_10 H locs := by rw [eσ_10]; exact hS
    have he_11 : σ_10 (L) = some (oO 9 [.int (iI (md)), .ref (q), .int (iI (n))]) := by rw [eσ_10]; exact up_s
    have he_12 := up_kp eσ_10 (Ne.symm (tl_neA he_8 he_9)) he_9
    refine W.widen (k := 1) (n := 1000) (by omega) (by omega) ?_
    exact r_q (v := (some (q))) C hr (by first | exact Or.inl ⟨_, rfl⟩ | exact Or.inr ⟨_, rfl⟩) hlk hS ⟨q, N, h, rfl, hq, hB, (by omega), (by omega), (by rw [eσ_10, eh]), (fun i h0 h1 => by rw [hh i.toNat (by omega)]; exact hg i h0 h1)⟩ dJ2_grow_2_44
  · skip
    refine lv_aload_n C.1 C.2.1 dJ2_grow_2_10 rfl (lv_at hl 1 rfl) ?_
    refine gf_J2_9_9 C hS hL rfl dJ2_grow_2_11 ?_
    refine h_gets C hS C.2.2.2.2.2.2.1 q116 rfl dJ2_grow_2_14 ?_
    refine lv_acmp_eq (tgt := 45) (rx := (some (arr))) (ry := (some (X.2.2.2 0))) C.1 C.2.1 dJ2_grow_2_17 (by decide) (fun hc_13 => ?_) (fun hc_13 => ?_)
    · skip
      refine lv_aload_n C.1 C.2.1 dJ2_grow_2_45 rfl (lv_at hl 1 rfl) ?_
      refine ti_bipush C.1 C.2.1 dJ2_grow_2_46 (by decide) ?_
      refine lv_iload_n C.1 C.2.1 dJ2_grow_2_48 rfl (lv_at hl 2 rfl) ?_
      refine ti_max C hml hl.1 q1014 ⟨by decide, by decide⟩ ⟨by omega, by omega⟩ dJ2_grow_2_49 (by show 1 ≤ 3; decide) (by show 40 ≤ 40 * 3; decide) (Nat.le_of_ble_eq_true rfl) (by show 0 ≤ 1; omega) (by show 0 ≤ 1000; omega) ?_
      refine h_newq C hS q1015 (by omega) (by omega) (by show 0 + 1 ≤ 1; omega) (by show 0 + ((max (10) ((n + 1)))).toNat ≤ 1000; omega) dJ2_grow_2_52 (fun q_14 H hS hq_14 hBq_14 => ?_)
      obtain ⟨σ_15, eσ_15⟩ : ∃ z, z = va_up σ q_14 (some (oQ (X.2.2.1 3) ((max (10) ((n + 1)))).toNat (fun _ => none))) := ⟨_, rfl⟩
      rw [← eσ_15] at hS
      have he_16 := up_kq eσ_15 hq_14 hL
      have he_17 := up_kq eσ_15 hq_14 hA
      have he_18 : σ_15 q_14 = some (oQ (X.2.2.1 3) ((max (10) ((n + 1)))).toNat (fun _ => none)) := by rw [eσ_15]; exact up_s
      refine lv_dup_x1 C.1 C.2.1 dJ2_grow_2_55 rfl rfl ?_
      refine gp_J2_9_9 C hS he_16 rfl rfl (Nat.le_of_ble_eq_true rfl) dJ2_grow_2_56 (fun H locs hS => ?_)
      obtain ⟨σ_19, eσ_19⟩ : ∃ z, z = va_up σ_15 (L) (some (oO 9 [.int (iI (md)), .ref (q_14), .int (iI (n))])) := ⟨_, rfl⟩
      have hS : tl_S X s σ_19 H locs := by rw [eσ_19]; exact hS
      have he_20 : σ_19 (L) = some (oO 9 [.int (iI (md)), .ref (q_14), .int (iI (n))]) := by rw [eσ_19]; exact up_s
      have he_21 := up_kp eσ_19 (Ne.symm (tl_neA he_16 he_17)) he_17
      have he_22 := up_kp eσ_19 (Ne.symm (tl_neA he_16 he_18)) he_18
      refine W.widen (k := 1) (n := 1000) (by omega) (by omega) ?_
      exact r_q (v := (some (q_14))) C hr (by first | exact Or.inl ⟨_, rfl⟩ | exact Or.inr ⟨_, rfl⟩) hlk hS ⟨q_14, (max 10 (n + 1)).toNat, (fun _ => none), rfl, hq_14, hBq_14, (by omega), (by omega), (by rw [eσ_19, eσ_15]), (fun i h0 h1 => by exfalso; omega)⟩ dJ2_grow_2_59
    · skip
      exact absurd (congrArg some (hz (by omega))) hc_13

set_option maxHeartbeats 4000000 in
theorem m_AL_grow (l : Launch) (X : tl_X) (σ : tl_H) (L : Nat) (md n : Int) (f : Int → Nat) (arr cap : Nat) (hAL : AL X σ L md n f arr cap) (hfull : n = cap) (hn6 : n ≤ 600) (hO : AO σ n f) : tl_Met l X yJ2_grow cJ2_grow 1 ((Option.some (FieldType.array (FieldType.object "java/lang/Object")))) 4 (1) (1000) [.ref (L)] σ (tl_Qq X (fun r σ' => ∃ (q cap' : Nat) (h : Nat → Option Nat), r = some q ∧ σ q = none ∧ X.2.1 ≤ q ∧ n < cap' ∧ cap' ≤ 1000 ∧ σ' = va_up (va_up σ q (some (oQ (X.2.2.1 3) cap' h))) L (some (cL md q n)) ∧ ∀ i : Int, 0 ≤ i → i < n → h i.toNat = some (f i))) := by
  obtain ⟨hL, ⟨g, hA, hg⟩, hn0, hnc, hc, hz⟩ := hAL
  refine tl_start (by decide) (Nat.le_of_ble_eq_true rfl) (fun p e s m below meth c ls C hr hml hlk hnm hS hl => ?_)
  have hl : lv_has ls 1 [(0, .ref (L))] := hl
  refine lv_aload_n C.1 C.2.1 dJ2_grow_0 rfl (lv_at hl 0 rfl) ?_
  refine lv_aload_n C.1 C.2.1 dJ2_grow_1 rfl (lv_at hl 0 rfl) ?_
  refine gf_J2_48_9 C hS hL rfl dJ2_grow_2 ?_
  refine ti_const C.1 C.2.1 dJ2_grow_5 ?_
  refine ti_iadd C.1 C.2.1 dJ2_grow_6 ?_
  refine tl_cq (t_V (n := 1) (ci := 9) C hml hS (m_AL_grow2 l X σ L md n f arr cap ⟨hL, ⟨g, hA, hg⟩, hn0, hnc, hc, hz⟩ hfull hn6 hO) q958 q960 qs13 q50 q961 (by decide +kernel) hL rfl rfl hl.1 rfl (Nat.le_of_ble_eq_true rfl) dJ2_grow_7 ⟨Nat.le_of_ble_eq_true rfl, Nat.le_of_ble_eq_true rfl⟩ ⟨by show 0 + (1) ≤ 1; omega, by show 0 + (1000) ≤ 1000; omega⟩) hS (fun r_1 σ_3 H locs hP_2 hS => ?_)
  refine W.widen (k := 1) (n := 1000) (by omega) (by omega) ?_
  exact r_q (v := (r_1)) C hr (by first | exact Or.inl ⟨_, rfl⟩ | exact Or.inr ⟨_, rfl⟩) hlk hS hP_2 dJ2_grow_10

