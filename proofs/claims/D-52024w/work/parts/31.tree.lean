/-! INTEGER, the small methods of TreeMap and TreeSet (printed by gen_tree.py) -/
set_option maxRecDepth 100000
abbrev cZ (i : Int) : va_E := oO 15 [.int (iI i)]
/-- an entry: key, value, left, right, parent, colour (1: black) -/
abbrev cE (k v : Nat) (lf rg pa : Option Nat) (co : Int) : va_E := oO 16 [.ref k, .ref v, va_rf lf, va_rf rg, va_rf pa, .int (iI co)]
/-- a tree map: root, size, changes, its set of keys -/
abbrev cT (rt : Option Nat) (n md : Int) (ks : Option Nat) : va_E := oO 13 [.null, .null, .null, va_rf rt, .int (iI n), .int (iI md), .null, va_rf ks, .null]
abbrev cKI (nx la : Option Nat) (md : Int) (T : Nat) : va_E := oO 18 [va_rf nx, va_rf la, .int (iI md), .ref T]
/-- cells are only added -/
def VF (X : tl_X) (σ σ' : tl_H) : Prop := tl_fix X σ' ∧ ∀ b e, σ b = some e → σ' b = some e
def icm (x y : Int) : Int := if x < y then -1 else if x = y then 0 else 1
set_option maxHeartbeats 4000000 in
theorem m_Z_compare (l : Launch) (X : tl_X) (σ : tl_H) (x y : Int) (hxy : -1000000 ≤ x ∧ x ≤ 1000000 ∧ -1000000 ≤ y ∧ y ≤ 1000000) : tl_Met l X yJ25_compare cJ25_compare 2 ((Option.some FieldType.int)) 1 (0) (0) [.int (iI (x)), .int (iI (y))] σ (tl_Qi X (fun r σ' => r = iI (icm x y) ∧ σ = σ')) := by
  refine tl_start (by decide) (Nat.le_of_ble_eq_true rfl) (fun p e s m below meth c ls C hr hml hlk hnm hS hl => ?_)
  have hl : lv_has ls 2 [(0, .int (iI (x))), (1, .int (iI (y)))] := hl
  refine lv_iload_n C.1 C.2.1 dJ25_compare_0 rfl (lv_at hl 0 rfl) ?_
  refine lv_iload_n C.1 C.2.1 dJ25_compare_1 rfl (lv_at hl 1 rfl) ?_
  refine ti_icmp_ge (tgt := 9) C.1 C.2.1 dJ25_compare_2 (by decide) ⟨by omega, by omega⟩ ⟨by omega, by omega⟩ (fun hc_1 => ?_) (fun hc_1 => ?_)
  · skip
    refine lv_iload_n C.1 C.2.1 dJ25_compare_9 rfl (lv_at hl 0 rfl) ?_
    refine lv_iload_n C.1 C.2.1 dJ25_compare_10 rfl (lv_at hl 1 rfl) ?_
    refine ti_icmp_ne (tgt := 18) C.1 C.2.1 dJ25_compare_11 (by decide) ⟨by omega, by omega⟩ ⟨by omega, by omega⟩ (fun hc_2 => ?_) (fun hc_2 => ?_)
    · skip
      refine ti_const C.1 C.2.1 dJ25_compare_18 ?_
      exact r_i C hr hlk hS ⟨congrArg iI (by unfold icm; split <;> (try split) <;> omega), rfl⟩ dJ25_compare_19
    · skip
      refine ti_const C.1 C.2.1 dJ25_compare_14 ?_
      refine lv_goto (tgt := 19) C.1 C.2.1 dJ25_compare_15 (by decide) ?_
      exact r_i C hr hlk hS ⟨congrArg iI (by unfold icm; split <;> (try split) <;> omega), rfl⟩ dJ25_compare_19
  · skip
    refine ti_const C.1 C.2.1 dJ25_compare_5 ?_
    refine lv_goto (tgt := 19) C.1 C.2.1 dJ25_compare_6 (by decide) ?_
    exact r_i C hr hlk hS ⟨congrArg iI (by unfold icm; split <;> (try split) <;> omega), rfl⟩ dJ25_compare_19

theorem gf_J25_205_15 {p : Program} {l : Launch} {e : Env} {R : Room} {s : State} {m : MethodId} {args : Array Value} {below : List Frame} {meth : Method} {c : Code} {H : Heap} {locs : List Loc} {cells slots : Nat} {Q : State → Prop} {cc : ByteArray} {pc : Nat} {ls : Array Slot} {rest : List Value} {X : tl_X} {σ : tl_H} {a : Nat} {fs : List Value} {v : Value} (C : tl_C X p s m args c cc RJ25) (hS : tl_S X s σ H locs) (he : σ a = some (oO 15 fs)) (hv : fs[0]? = some v) (hdg : decode cc pc = .ok (.getfield 205, 3)) (kk : W p l e R s m args below meth c H locs cells slots Q (F0 m (pc + 3) ls (v :: rest))) : W p l e R s m args below meth c H locs cells slots Q (F0 m pc ls (.ref a :: rest)) :=
  h_get (ref := "java/lang/Integer") C hS in_J25 rfl 0 (by decide) q470 (fun _ h => h) he hv hdg kk
set_option maxHeartbeats 4000000 in
theorem m_Z_compareTo2 (l : Launch) (X : tl_X) (σ : tl_H) (a b : Nat) (x y : Int) (hxy : -1000000 ≤ x ∧ x ≤ 1000000 ∧ -1000000 ≤ y ∧ y ≤ 1000000) (ha : σ a = some (cZ x)) (hb : σ b = some (cZ y)) : tl_Met l X yJ25_compareTo_2 cJ25_compareTo_2 2 ((Option.some FieldType.int)) 2 (0) (0) [.ref (a), .ref (b)] σ (tl_Qi X (fun r σ' => r = iI (icm x y) ∧ σ = σ')) := by
  refine tl_start (by decide) (Nat.le_of_ble_eq_true rfl) (fun p e s m below meth c ls C hr hml hlk hnm hS hl => ?_)
  have hl : lv_has ls 2 [(0, .ref (a)), (1, .ref (b))] := hl
  refine lv_aload_n C.1 C.2.1 dJ25_compareTo_2_0 rfl (lv_at hl 0 rfl) ?_
  refine gf_J25_205_15 C hS ha rfl dJ25_compareTo_2_1 ?_
  refine lv_aload_n C.1 C.2.1 dJ25_compareTo_2_4 rfl (lv_at hl 1 rfl) ?_
  refine gf_J25_205_15 C hS hb rfl dJ25_compareTo_2_5 ?_
  refine tl_ci (t_S (n := 2) C hml hS (m_Z_compare l X σ x y hxy) q516 q517 q81 q518 (by decide +kernel) rfl hl.1 rfl (Nat.le_of_ble_eq_true rfl) dJ25_compareTo_2_8 ⟨Nat.le_of_ble_eq_true rfl, Nat.le_of_ble_eq_true rfl⟩ ⟨Nat.le_refl _, Nat.le_refl _⟩) hS (fun r_1 σ_3 H locs hP_2 hS => ?_)
  obtain ⟨rfl, rfl⟩ := hP_2
  exact r_i C hr hlk hS ⟨rfl, rfl⟩ dJ25_compareTo_2_11

set_option maxHeartbeats 4000000 in
theorem m_Z_compareTo (l : Launch) (X : tl_X) (σ : tl_H) (a b : Nat) (x y : Int) (hxy : -1000000 ≤ x ∧ x ≤ 1000000 ∧ -1000000 ≤ y ∧ y ≤ 1000000) (ha : σ a = some (cZ x)) (hb : σ b = some (cZ y)) : tl_Met l X yJ25_compareTo cJ25_compareTo 2 ((Option.some FieldType.int)) 3 (0) (0) [.ref (a), .ref (b)] σ (tl_Qi X (fun r σ' => r = iI (icm x y) ∧ σ = σ')) := by
  refine tl_start (by decide) (Nat.le_of_ble_eq_true rfl) (fun p e s m below meth c ls C hr hml hlk hnm hS hl => ?_)
  have hl : lv_has ls 2 [(0, .ref (a)), (1, .ref (b))] := hl
  refine lv_aload_n C.1 C.2.1 dJ25_compareTo_0 rfl (lv_at hl 0 rfl) ?_
  refine lv_aload_n C.1 C.2.1 dJ25_compareTo_1 rfl (lv_at hl 1 rfl) ?_
  refine h_cast (ci := 15) C hS rfl q461 hb dJ25_compareTo_2 ?_
  refine tl_ci (t_V (n := 1) (ci := 15) C hml hS (m_Z_compareTo2 l X σ a b x y hxy ha hb) q512 q513 q514 q81 q515 (by decide +kernel) ha rfl rfl hl.1 rfl (Nat.le_of_ble_eq_true rfl) dJ25_compareTo_5 ⟨Nat.le_of_ble_eq_true rfl, Nat.le_of_ble_eq_true rfl⟩ ⟨Nat.le_refl _, Nat.le_refl _⟩) hS (fun r_1 σ_3 H locs hP_2 hS => ?_)
  obtain ⟨rfl, rfl⟩ := hP_2
  exact r_i C hr hlk hS ⟨rfl, rfl⟩ dJ25_compareTo_8

set_option maxHeartbeats 4000000 in
theorem m_Nu_init (l : Launch) (X : tl_X) (σ : tl_H) (a : Nat) : tl_Met l X yJ24_init cJ24_init 1 ((Option.none : Option FieldType)) 1 (0) (0) [.ref (a)] σ (tl_Qv X (fun σ' => σ = σ')) := by
  refine tl_start (by decide) (Nat.le_of_ble_eq_true rfl) (fun p e s m below meth c ls C hr hml hlk hnm hS hl => ?_)
  have hl : lv_has ls 1 [(0, .ref (a))] := hl
  refine lv_aload_n C.1 C.2.1 dJ24_init_0 rfl (lv_at hl 0 rfl) ?_
  refine h_obj C hml hl.1 q469 dJ24_init_1 (by show 1 ≤ 1; decide) (by show 40 ≤ 40 * 1; decide) (Nat.le_of_ble_eq_true rfl) ?_
  exact r_v C hr hlk hS rfl dJ24_init_4

theorem gq_J25_205_15 {p : Program} {l : Launch} {e : Env} {R : Room} {s : State} {m : MethodId} {args : Array Value} {below : List Frame} {meth : Method} {c : Code} {H : Heap} {locs : List Loc} {cells slots : Nat} {Q : State → Prop} {cc : ByteArray} {pc : Nat} {ls : Array Slot} {rest : List Value} {X : tl_X} {σ : tl_H} {a : Nat} {fs : List Value} {v : Value} (C : tl_C X p s m args c cc RJ25) (hin : meth.name = "<init>") (hS : tl_S X s σ H locs) (hw : X.2.1 ≤ a) (he : σ a = some (oO 15 fs)) (hn : narrow (tyJ25 0) v = v) (hfit : fits (tyJ25 0) v = true) (hl : 0 < fs.length) (hdg : decode cc pc = .ok (.putfield 205, 3)) (kk : ∀ (H1 : Heap) (locs1 : List Loc), tl_S X s (va_up σ a (some (oO 15 (fs.set 0 v)))) H1 locs1 → W p l e R s m args below meth c H1 locs1 cells slots Q (F0 m (pc + 3) ls rest)) : W p l e R s m args below meth c H locs cells slots Q (F0 m pc ls (v :: .ref a :: rest)) :=
  h_putF (ref := "java/lang/Integer") C hin hS in_J25 tyJ25 tyJ25_ok nmJ25 rfl 0 (by decide) q470 (fun _ h => h) rfl rfl hw he hn hfit hl hdg kk
set_option maxHeartbeats 4000000 in
theorem m_Z_init (l : Launch) (X : tl_X) (σ : tl_H) (a : Nat) (i : Int) (hw : X.2.1 ≤ a) (ha : σ a = some (cZ 0)) : tl_Met l X yJ25_init cJ25_init 2 ((Option.none : Option FieldType)) 2 (0) (0) [.ref (a), .int (iI (i))] σ (tl_Qv X (fun σ' => σ' = va_up σ a (some (cZ i)))) := by
  refine tl_start (by decide) (Nat.le_of_ble_eq_true rfl) (fun p e s m below meth c ls C hr hml hlk hnm hS hl => ?_)
  have hl : lv_has ls 2 [(0, .ref (a)), (1, .int (iI (i)))] := hl
  refine lv_aload_n C.1 C.2.1 dJ25_init_0 rfl (lv_at hl 0 rfl) ?_
  refine tl_cv (t_I (n := 0) C hml hS (m_Nu_init l X σ (a)) q466 q467 q80 q468 rfl (by decide +kernel) rfl hl.1 rfl (Nat.le_of_ble_eq_true rfl) dJ25_init_1 ⟨Nat.le_of_ble_eq_true rfl, Nat.le_of_ble_eq_true rfl⟩ ⟨Nat.le_refl _, Nat.le_refl _⟩) hS (fun σ_3 H locs hP_2 hS => ?_)
  obtain rfl := hP_2
  refine lv_aload_n C.1 C.2.1 dJ25_init_4 rfl (lv_at hl 0 rfl) ?_
  refine lv_iload_n C.1 C.2.1 dJ25_init_5 rfl (lv_at hl 1 rfl) ?_
  refine gq_J25_205_15 C hnm hS hw ha rfl rfl (Nat.le_of_ble_eq_true rfl) dJ25_init_6 (fun H locs hS => ?_)
  obtain ⟨σ_4, eσ_4⟩ : ∃ z, z = va_up σ (a) (some (oO 15 [.int (iI (i))])) := ⟨_, rfl⟩
  have hS : tl_S X s σ_4 H locs := by rw [eσ_4]; exact hS
  have he_5 : σ_4 (a) = some (oO 15 [.int (iI (i))]) := by rw [eσ_4]; exact up_s
  exact r_v C hr hlk hS (by rw [eσ_4]) dJ25_init_9

theorem df_J25 : ∀ j, j < 1 → defaultValue (tyJ25 j) = vp_V [.int (iI (0))] j := by
  intro j hj
  rcases (show j = 0 by omega) with rfl <;> rfl
set_option maxHeartbeats 4000000 in
theorem m_Z_valueOf (l : Launch) (X : tl_X) (σ : tl_H) (i : Int) (hi : -1000000 ≤ i ∧ i ≤ 1000000) : tl_Met l X yJ25_valueOf cJ25_valueOf 1 ((Option.some (FieldType.object "java/lang/Integer"))) 3 (1) (1) [.int (iI (i))] σ (tl_Qq X (fun r σ' => ∃ q : Nat, r = some q ∧ σ' q = some (cZ i) ∧ VF X σ σ')) := by
  refine tl_start (by decide) (Nat.le_of_ble_eq_true rfl) (fun p e s m below meth c ls C hr hml hlk hnm hS hl => ?_)
  have hl : lv_has ls 1 [(0, .int (iI (i)))] := hl
  refine lv_iload_n C.1 C.2.1 dJ25_valueOf_0 rfl (lv_at hl 0 rfl) ?_
  refine ti_bipush C.1 C.2.1 dJ25_valueOf_1 (by decide) ?_
  refine ti_icmp_lt (tgt := 23) C.1 C.2.1 dJ25_valueOf_3 (by decide) ⟨by omega, by omega⟩ ⟨by decide, by decide⟩ (fun hc_1 => ?_) (fun hc_1 => ?_)
  · skip
    refine h_new (ci := 15) (fs := [.int (iI (0))]) C hS in_J25 tyJ25 tyJ25_ok q461 q462 q81 rfl df_J25 (by show 0 + 1 ≤ 1; omega) (by show 0 + 1 ≤ 1; omega) dJ25_valueOf_23 (fun q_2 H hS hq_2 hBq_2 => ?_)
    obtain ⟨σ_3, eσ_3⟩ : ∃ z, z = va_up σ q_2 (some (oO 15 [.int (iI (0))])) := ⟨_, rfl⟩
    rw [← eσ_3] at hS
    have he_4 : σ_3 q_2 = some (oO 15 [.int (iI (0))]) := by rw [eσ_3]; exact up_s
    refine lv_dup C.1 C.2.1 dJ25_valueOf_26 rfl ?_
    refine lv_iload_n C.1 C.2.1 dJ25_valueOf_27 rfl (lv_at hl 0 rfl) ?_
    refine tl_cv (t_I (n := 1) C hml hS (m_Z_init l X σ_3 q_2 i hBq_2 he_4) q463 q464 q81 q465 rfl (by decide +kernel) rfl hl.1 rfl (Nat.le_of_ble_eq_true rfl) dJ25_valueOf_28 ⟨Nat.le_of_ble_eq_true rfl, Nat.le_of_ble_eq_true rfl⟩ ⟨by show 0 + 1 + (0) ≤ 1; omega, by show 0 + 1 + (0) ≤ 1; omega⟩) hS (fun σ_7 H locs hP_6 hS => ?_)
    refine W.widen (k := 1) (n := 1) (by omega) (by omega) ?_
    exact r_q (v := (some (q_2))) C hr (by first | exact Or.inl ⟨_, rfl⟩ | exact Or.inr ⟨_, rfl⟩) hlk hS ⟨q_2, rfl, by rw [hP_6, up_s], hS.fix, fun b e hb => by rw [hP_6, eσ_3, up_uu]; exact up_old hq_2 hb⟩ dJ25_valueOf_31
  · skip
    refine lv_iload_n C.1 C.2.1 dJ25_valueOf_6 rfl (lv_at hl 0 rfl) ?_
    refine h_gets (v := .int (iI 127)) C hS (by rw [show iI 127 = 127 by decide]; exact C.2.2.2.2.2.2.2.2.1) q457 rfl dJ25_valueOf_7 ?_
    refine ti_icmp_gt (tgt := 23) C.1 C.2.1 dJ25_valueOf_10 (by decide) ⟨by omega, by omega⟩ ⟨by decide, by decide⟩ (fun hc_8 => ?_) (fun hc_8 => ?_)
    · skip
      refine h_new (ci := 15) (fs := [.int (iI (0))]) C hS in_J25 tyJ25 tyJ25_ok q461 q462 q81 rfl df_J25 (by show 0 + 1 ≤ 1; omega) (by show 0 + 1 ≤ 1; omega) dJ25_valueOf_23 (fun q_9 H hS hq_9 hBq_9 => ?_)
      obtain ⟨σ_10, eσ_10⟩ : ∃ z, z = va_up σ q_9 (some (oO 15 [.int (iI (0))])) := ⟨_, rfl⟩
      rw [← eσ_10] at hS
      have he_11 : σ_10 q_9 = some (oO 15 [.int (iI (0))]) := by rw [eσ_10]; exact up_s
      refine lv_dup C.1 C.2.1 dJ25_valueOf_26 rfl ?_
      refine lv_iload_n C.1 C.2.1 dJ25_valueOf_27 rfl (lv_at hl 0 rfl) ?_
      refine tl_cv (t_I (n := 1) C hml hS (m_Z_init l X σ_10 q_9 i hBq_9 he_11) q463 q464 q81 q465 rfl (by decide +kernel) rfl hl.1 rfl (Nat.le_of_ble_eq_true rfl) dJ25_valueOf_28 ⟨Nat.le_of_ble_eq_true rfl, Nat.le_of_ble_eq_true rfl⟩ ⟨by show 0 + 1 + (0) ≤ 1; omega, by show 0 + 1 + (0) ≤ 1; omega⟩) hS (fun σ_14 H locs hP_13 hS => ?_)
      refine W.widen (k := 1) (n := 1) (by omega) (by omega) ?_
      exact r_q (v := (some (q_9))) C hr (by first | exact Or.inl ⟨_, rfl⟩ | exact Or.inr ⟨_, rfl⟩) hlk hS ⟨q_9, rfl, by rw [hP_13, up_s], hS.fix, fun b e hb => by rw [hP_13, eσ_10, up_uu]; exact up_old hq_9 hb⟩ dJ25_valueOf_31
    · skip
      refine h_gets C hS C.2.2.2.2.2.2.2.2.2.1 q459 rfl dJ25_valueOf_13 ?_
      refine lv_iload_n C.1 C.2.1 dJ25_valueOf_16 rfl (lv_at hl 0 rfl) ?_
      refine ti_sipush C.1 C.2.1 dJ25_valueOf_17 (by decide) ?_
      refine ti_iadd C.1 C.2.1 dJ25_valueOf_20 ?_
      refine vb_tq (v := .ref (X.2.2.2 (3 + (i + 128).toNat))) C.1 C.2.1 C.2.2.2.2.2.2.2.2.2.2.1 hS.2.1 (iI_in (by omega) (by show i + 128 < (256 : Nat); omega) (by decide)) (by rw [iI_clamp ⟨by omega, by omega⟩]) dJ25_valueOf_21 ?_
      refine W.widen (k := 1) (n := 1) (by omega) (by omega) ?_
      exact r_q (v := (some (X.2.2.2 (3 + (i + 128).toNat)))) C hr (by first | exact Or.inl ⟨_, rfl⟩ | exact Or.inr ⟨_, rfl⟩) hlk hS ⟨_, rfl, (hS.fix.2.2 (i + 128).toNat (by omega)).trans (by rw [show (((i + 128).toNat : Nat) : Int) - 128 = i by omega]), hS.fix, fun _ _ h => h⟩ dJ25_valueOf_22

theorem gp_J30_9_16 {p : Program} {l : Launch} {e : Env} {R : Room} {s : State} {m : MethodId} {args : Array Value} {below : List Frame} {meth : Method} {c : Code} {H : Heap} {locs : List Loc} {cells slots : Nat} {Q : State → Prop} {cc : ByteArray} {pc : Nat} {ls : Array Slot} {rest : List Value} {X : tl_X} {σ : tl_H} {a : Nat} {fs : List Value} {v : Value} (C : tl_C X p s m args c cc RJ30) (hS : tl_S X s σ H locs) (he : σ a = some (oO 16 fs)) (hn : narrow (tyJ30 5) v = v) (hfit : fits (tyJ30 5) v = true) (hl : 5 < fs.length) (hdg : decode cc pc = .ok (.putfield 9, 3)) (kk : ∀ (H1 : Heap) (locs1 : List Loc), tl_S X s (va_up σ a (some (oO 16 (fs.set 5 v)))) H1 locs1 → W p l e R s m args below meth c H1 locs1 cells slots Q (F0 m (pc + 3) ls rest)) : W p l e R s m args below meth c H locs cells slots Q (F0 m pc ls (v :: .ref a :: rest)) :=
  h_put (ref := "java/util/TreeMap$Entry") C hS in_J30 tyJ30 tyJ30_ok nmJ30 rfl 5 (by decide) q749 (fun _ h => h) rfl (by decide) he hn hfit hl hdg kk
theorem gp_J30_15_16 {p : Program} {l : Launch} {e : Env} {R : Room} {s : State} {m : MethodId} {args : Array Value} {below : List Frame} {meth : Method} {c : Code} {H : Heap} {locs : List Loc} {cells slots : Nat} {Q : State → Prop} {cc : ByteArray} {pc : Nat} {ls : Array Slot} {rest : List Value} {X : tl_X} {σ : tl_H} {a : Nat} {fs : List Value} {v : Value} (C : tl_C X p s m args c cc RJ30) (hS : tl_S X s σ H locs) (he : σ a = some (oO 16 fs)) (hn : narrow (tyJ30 0) v = v) (hfit : fits (tyJ30 0) v = true) (hl : 0 < fs.length) (hdg : decode cc pc = .ok (.putfield 15, 3)) (kk : ∀ (H1 : Heap) (locs1 : List Loc), tl_S X s (va_up σ a (some (oO 16 (fs.set 0 v)))) H1 locs1 → W p l e R s m args below meth c H1 locs1 cells slots Q (F0 m (pc + 3) ls rest)) : W p l e R s m args below meth c H locs cells slots Q (F0 m pc ls (v :: .ref a :: rest)) :=
  h_put (ref := "java/util/TreeMap$Entry") C hS in_J30 tyJ30 tyJ30_ok nmJ30 rfl 0 (by decide) q740 (fun _ h => h) rfl (by decide) he hn hfit hl hdg kk
theorem gp_J30_19_16 {p : Program} {l : Launch} {e : Env} {R : Room} {s : State} {m : MethodId} {args : Array Value} {below : List Frame} {meth : Method} {c : Code} {H : Heap} {locs : List Loc} {cells slots : Nat} {Q : State → Prop} {cc : ByteArray} {pc : Nat} {ls : Array Slot} {rest : List Value} {X : tl_X} {σ : tl_H} {a : Nat} {fs : List Value} {v : Value} (C : tl_C X p s m args c cc RJ30) (hS : tl_S X s σ H locs) (he : σ a = some (oO 16 fs)) (hn : narrow (tyJ30 1) v = v) (hfit : fits (tyJ30 1) v = true) (hl : 1 < fs.length) (hdg : decode cc pc = .ok (.putfield 19, 3)) (kk : ∀ (H1 : Heap) (locs1 : List Loc), tl_S X s (va_up σ a (some (oO 16 (fs.set 1 v)))) H1 locs1 → W p l e R s m args below meth c H1 locs1 cells slots Q (F0 m (pc + 3) ls rest)) : W p l e R s m args below meth c H locs cells slots Q (F0 m pc ls (v :: .ref a :: rest)) :=
  h_put (ref := "java/util/TreeMap$Entry") C hS in_J30 tyJ30 tyJ30_ok nmJ30 rfl 1 (by decide) q743 (fun _ h => h) rfl (by decide) he hn hfit hl hdg kk
theorem gp_J30_22_16 {p : Program} {l : Launch} {e : Env} {R : Room} {s : State} {m : MethodId} {args : Array Value} {below : List Frame} {meth : Method} {c : Code} {H : Heap} {locs : List Loc} {cells slots : Nat} {Q : State → Prop} {cc : ByteArray} {pc : Nat} {ls : Array Slot} {rest : List Value} {X : tl_X} {σ : tl_H} {a : Nat} {fs : List Value} {v : Value} (C : tl_C X p s m args c cc RJ30) (hS : tl_S X s σ H locs) (he : σ a = some (oO 16 fs)) (hn : narrow (tyJ30 4) v = v) (hfit : fits (tyJ30 4) v = true) (hl : 4 < fs.length) (hdg : decode cc pc = .ok (.putfield 22, 3)) (kk : ∀ (H1 : Heap) (locs1 : List Loc), tl_S X s (va_up σ a (some (oO 16 (fs.set 4 v)))) H1 locs1 → W p l e R s m args below meth c H1 locs1 cells slots Q (F0 m (pc + 3) ls rest)) : W p l e R s m args below meth c H locs cells slots Q (F0 m pc ls (v :: .ref a :: rest)) :=
  h_put (ref := "java/util/TreeMap$Entry") C hS in_J30 tyJ30 tyJ30_ok nmJ30 rfl 4 (by decide) q747 (fun _ h => h) rfl (by decide) he hn hfit hl hdg kk
set_option maxHeartbeats 4000000 in
theorem m_En_init_n (l : Launch) (X : tl_X) (σ : tl_H) (a k v : Nat) (ha : σ a = some (oO 16 [.null, .null, .null, .null, .null, .int (iI 0)])) : tl_Met l X yJ30_init cJ30_init 4 ((Option.none : Option FieldType)) 1 (0) (0) [.ref (a), .ref (k), .ref (v), .null] σ (tl_Qv X (fun σ' => σ' = va_up σ a (some (cE k v none none none 1)))) := by
  refine tl_start (by decide) (Nat.le_of_ble_eq_true rfl) (fun p e s m below meth c ls C hr hml hlk hnm hS hl => ?_)
  have hl : lv_has ls 4 [(0, .ref (a)), (1, .ref (k)), (2, .ref (v)), (3, .null)] := hl
  refine lv_aload_n C.1 C.2.1 dJ30_init_0 rfl (lv_at hl 0 rfl) ?_
  refine h_obj C hml hl.1 q739 dJ30_init_1 (by show 1 ≤ 1; decide) (by show 40 ≤ 40 * 1; decide) (Nat.le_of_ble_eq_true rfl) ?_
  refine lv_aload_n C.1 C.2.1 dJ30_init_4 rfl (lv_at hl 0 rfl) ?_
  refine ti_const C.1 C.2.1 dJ30_init_5 ?_
  refine gp_J30_9_16 C hS ha (by decide) (by decide) (Nat.le_of_ble_eq_true rfl) dJ30_init_6 (fun H locs hS => ?_)
  obtain ⟨σ_1, eσ_1⟩ : ∃ z, z = va_up σ (a) (some (oO 16 [.null, .null, .null, .null, .null, .int (iI (1))])) := ⟨_, rfl⟩
  have hS : tl_S X s σ_1 H locs := by rw [eσ_1]; exact hS
  have he_2 : σ_1 (a) = some (oO 16 [.null, .null, .null, .null, .null, .int (iI (1))]) := by rw [eσ_1]; exact up_s
  refine lv_aload_n C.1 C.2.1 dJ30_init_9 rfl (lv_at hl 0 rfl) ?_
  refine lv_aload_n C.1 C.2.1 dJ30_init_10 rfl (lv_at hl 1 rfl) ?_
  refine gp_J30_15_16 C hS he_2 rfl rfl (Nat.le_of_ble_eq_true rfl) dJ30_init_11 (fun H locs hS => ?_)
  obtain ⟨σ_3, eσ_3⟩ : ∃ z, z = va_up σ_1 (a) (some (oO 16 [.ref (k), .null, .null, .null, .null, .int (iI (1))])) := ⟨_, rfl⟩
  have hS : tl_S X s σ_3 H locs := by rw [eσ_3]; exact hS
  have he_4 : σ_3 (a) = some (oO 16 [.ref (k), .null, .null, .null, .null, .int (iI (1))]) := by rw [eσ_3]; exact up_s
  refine lv_aload_n C.1 C.2.1 dJ30_init_14 rfl (lv_at hl 0 rfl) ?_
  refine lv_aload_n C.1 C.2.1 dJ30_init_15 rfl (lv_at hl 2 rfl) ?_
  refine gp_J30_19_16 C hS he_4 rfl rfl (Nat.le_of_ble_eq_true rfl) dJ30_init_16 (fun H locs hS => ?_)
  obtain ⟨σ_5, eσ_5⟩ : ∃ z, z = va_up σ_3 (a) (some (oO 16 [.ref (k), .ref (v), .null, .null, .null, .int (iI (1))])) := ⟨_, rfl⟩
  have hS : tl_S X s σ_5 H locs := by rw [eσ_5]; exact hS
  have he_6 : σ_5 (a) = some (oO 16 [.ref (k), .ref (v), .null, .null, .null, .int (iI (1))]) := by rw [eσ_5]; exact up_s
  refine lv_aload_n C.1 C.2.1 dJ30_init_19 rfl (lv_at hl 0 rfl) ?_
  refine lv_aload_nN C.1 C.2.1 dJ30_init_20 rfl (lv_at hl 3 rfl) ?_
  refine gp_J30_22_16 C hS he_6 rfl rfl (Nat.le_of_ble_eq_true rfl) dJ30_init_21 (fun H locs hS => ?_)
  obtain ⟨σ_7, eσ_7⟩ : ∃ z, z = va_up σ_5 (a) (some (oO 16 [.ref (k), .ref (v), .null, .null, .null, .int (iI (1))])) := ⟨_, rfl⟩
  have hS : tl_S X s σ_7 H locs := by rw [eσ_7]; exact hS
  have he_8 : σ_7 (a) = some (oO 16 [.ref (k), .ref (v), .null, .null, .null, .int (iI (1))]) := by rw [eσ_7]; exact up_s
  exact r_v C hr hlk hS (by rw [eσ_7, eσ_5, eσ_3, eσ_1, up_uu, up_uu, up_uu]; rfl) dJ30_init_24

set_option maxHeartbeats 4000000 in
theorem m_En_init_r (l : Launch) (X : tl_X) (σ : tl_H) (a k v : Nat) (pw : Nat) (ha : σ a = some (oO 16 [.null, .null, .null, .null, .null, .int (iI 0)])) : tl_Met l X yJ30_init cJ30_init 4 ((Option.none : Option FieldType)) 1 (0) (0) [.ref (a), .ref (k), .ref (v), .ref (pw)] σ (tl_Qv X (fun σ' => σ' = va_up σ a (some (cE k v none none (some pw) 1)))) := by
  refine tl_start (by decide) (Nat.le_of_ble_eq_true rfl) (fun p e s m below meth c ls C hr hml hlk hnm hS hl => ?_)
  have hl : lv_has ls 4 [(0, .ref (a)), (1, .ref (k)), (2, .ref (v)), (3, .ref (pw))] := hl
  refine lv_aload_n C.1 C.2.1 dJ30_init_0 rfl (lv_at hl 0 rfl) ?_
  refine h_obj C hml hl.1 q739 dJ30_init_1 (by show 1 ≤ 1; decide) (by show 40 ≤ 40 * 1; decide) (Nat.le_of_ble_eq_true rfl) ?_
  refine lv_aload_n C.1 C.2.1 dJ30_init_4 rfl (lv_at hl 0 rfl) ?_
  refine ti_const C.1 C.2.1 dJ30_init_5 ?_
  refine gp_J30_9_16 C hS ha (by decide) (by decide) (Nat.le_of_ble_eq_true rfl) dJ30_init_6 (fun H locs hS => ?_)
  obtain ⟨σ_1, eσ_1⟩ : ∃ z, z = va_up σ (a) (some (oO 16 [.null, .null, .null, .null, .null, .int (iI (1))])) := ⟨_, rfl⟩
  have hS : tl_S X s σ_1 H locs := by rw [eσ_1]; exact hS
  have he_2 : σ_1 (a) = some (oO 16 [.null, .null, .null, .null, .null, .int (iI (1))]) := by rw [eσ_1]; exact up_s
  refine lv_aload_n C.1 C.2.1 dJ30_init_9 rfl (lv_at hl 0 rfl) ?_
  refine lv_aload_n C.1 C.2.1 dJ30_init_10 rfl (lv_at hl 1 rfl) ?_
  refine gp_J30_15_16 C hS he_2 rfl rfl (Nat.le_of_ble_eq_true rfl) dJ30_init_11 (fun H locs hS => ?_)
  obtain ⟨σ_3, eσ_3⟩ : ∃ z, z = va_up σ_1 (a) (some (oO 16 [.ref (k), .null, .null, .null, .null, .int (iI (1))])) := ⟨_, rfl⟩
  have hS : tl_S X s σ_3 H locs := by rw [eσ_3]; exact hS
  have he_4 : σ_3 (a) = some (oO 16 [.ref (k), .null, .null, .null, .null, .int (iI (1))]) := by rw [eσ_3]; exact up_s
  refine lv_aload_n C.1 C.2.1 dJ30_init_14 rfl (lv_at hl 0 rfl) ?_
  refine lv_aload_n C.1 C.2.1 dJ30_init_15 rfl (lv_at hl 2 rfl) ?_
  refine gp_J30_19_16 C hS he_4 rfl rfl (Nat.le_of_ble_eq_true rfl) dJ30_init_16 (fun H locs hS => ?_)
  obtain ⟨σ_5, eσ_5⟩ : ∃ z, z = va_up σ_3 (a) (some (oO 16 [.ref (k), .ref (v), .null, .null, .null, .int (iI (1))])) := ⟨_, rfl⟩
  have hS : tl_S X s σ_5 H locs := by rw [eσ_5]; exact hS
  have he_6 : σ_5 (a) = some (oO 16 [.ref (k), .ref (v), .null, .null, .null, .int (iI (1))]) := by rw [eσ_5]; exact up_s
  refine lv_aload_n C.1 C.2.1 dJ30_init_19 rfl (lv_at hl 0 rfl) ?_
  refine lv_aload_n C.1 C.2.1 dJ30_init_20 rfl (lv_at hl 3 rfl) ?_
  refine gp_J30_22_16 C hS he_6 rfl rfl (Nat.le_of_ble_eq_true rfl) dJ30_init_21 (fun H locs hS => ?_)
  obtain ⟨σ_7, eσ_7⟩ : ∃ z, z = va_up σ_5 (a) (some (oO 16 [.ref (k), .ref (v), .null, .null, .ref (pw), .int (iI (1))])) := ⟨_, rfl⟩
  have hS : tl_S X s σ_7 H locs := by rw [eσ_7]; exact hS
  have he_8 : σ_7 (a) = some (oO 16 [.ref (k), .ref (v), .null, .null, .ref (pw), .int (iI (1))]) := by rw [eσ_7]; exact up_s
  exact r_v C hr hlk hS (by rw [eσ_7, eσ_5, eσ_3, eσ_1, up_uu, up_uu, up_uu]; rfl) dJ30_init_24

set_option maxHeartbeats 4000000 in
theorem m_parentOf_n (l : Launch) (X : tl_X) (σ : tl_H)  : tl_Met l X yJ21_parentOf cJ21_parentOf 1 ((Option.some (FieldType.object "java/util/TreeMap$Entry"))) 1 (0) (0) [.null] σ (tl_Qq X (fun r σ' => r = none ∧ σ = σ')) := by
  refine tl_start (by decide) (Nat.le_of_ble_eq_true rfl) (fun p e s m below meth c ls C hr hml hlk hnm hS hl => ?_)
  have hl : lv_has ls 1 [(0, .null)] := hl
  refine lv_aload_nN C.1 C.2.1 dJ21_parentOf_0 rfl (lv_at hl 0 rfl) ?_
  refine lv_ifnonnullN C.1 C.2.1 dJ21_parentOf_1 ?_
  refine lv_null C.1 C.2.1 dJ21_parentOf_4 ?_
  refine lv_goto (tgt := 12) C.1 C.2.1 dJ21_parentOf_5 (by decide) ?_
  exact r_q (v := none) C hr (by first | exact Or.inl ⟨_, rfl⟩ | exact Or.inr ⟨_, rfl⟩) hlk hS ⟨rfl, rfl⟩ dJ21_parentOf_12

theorem gf_J21_124_16 {p : Program} {l : Launch} {e : Env} {R : Room} {s : State} {m : MethodId} {args : Array Value} {below : List Frame} {meth : Method} {c : Code} {H : Heap} {locs : List Loc} {cells slots : Nat} {Q : State → Prop} {cc : ByteArray} {pc : Nat} {ls : Array Slot} {rest : List Value} {X : tl_X} {σ : tl_H} {a : Nat} {fs : List Value} {v : Value} (C : tl_C X p s m args c cc RJ21) (hS : tl_S X s σ H locs) (he : σ a = some (oO 16 fs)) (hv : fs[4]? = some v) (hdg : decode cc pc = .ok (.getfield 124, 3)) (kk : W p l e R s m args below meth c H locs cells slots Q (F0 m (pc + 3) ls (v :: rest))) : W p l e R s m args below meth c H locs cells slots Q (F0 m pc ls (.ref a :: rest)) :=
  h_get (ref := "java/util/TreeMap$Entry") C hS in_J30 rfl 4 (by decide) q748 (fun _ h => h) he hv hdg kk
set_option maxHeartbeats 4000000 in
theorem m_parentOf_r (l : Launch) (X : tl_X) (σ : tl_H) (a k v : Nat) (lf rg pa : Option Nat) (co : Int) (ha : σ a = some (cE k v lf rg pa co))  : tl_Met l X yJ21_parentOf cJ21_parentOf 1 ((Option.some (FieldType.object "java/util/TreeMap$Entry"))) 1 (0) (0) [.ref (a)] σ (tl_Qq X (fun r σ' => r = pa ∧ σ = σ')) := by
  refine tl_start (by decide) (Nat.le_of_ble_eq_true rfl) (fun p e s m below meth c ls C hr hml hlk hnm hS hl => ?_)
  have hl : lv_has ls 1 [(0, .ref (a))] := hl
  refine lv_aload_n C.1 C.2.1 dJ21_parentOf_0 rfl (lv_at hl 0 rfl) ?_
  refine lv_ifnonnull (tgt := 8) C.1 C.2.1 dJ21_parentOf_1 (by decide) ?_
  refine lv_aload_n C.1 C.2.1 dJ21_parentOf_8 rfl (lv_at hl 0 rfl) ?_
  refine gf_J21_124_16 C hS ha rfl dJ21_parentOf_9 ?_
  exact r_q (v := (pa)) C hr (by first | exact Or.inl ⟨_, rfl⟩ | exact Or.inr ⟨_, rfl⟩) hlk hS ⟨rfl, rfl⟩ dJ21_parentOf_12

set_option maxHeartbeats 4000000 in
theorem m_leftOf_n (l : Launch) (X : tl_X) (σ : tl_H)  : tl_Met l X yJ21_leftOf cJ21_leftOf 1 ((Option.some (FieldType.object "java/util/TreeMap$Entry"))) 1 (0) (0) [.null] σ (tl_Qq X (fun r σ' => r = none ∧ σ = σ')) := by
  refine tl_start (by decide) (Nat.le_of_ble_eq_true rfl) (fun p e s m below meth c ls C hr hml hlk hnm hS hl => ?_)
  have hl : lv_has ls 1 [(0, .null)] := hl
  refine lv_aload_nN C.1 C.2.1 dJ21_leftOf_0 rfl (lv_at hl 0 rfl) ?_
  refine lv_ifnonnullN C.1 C.2.1 dJ21_leftOf_1 ?_
  refine lv_null C.1 C.2.1 dJ21_leftOf_4 ?_
  refine lv_goto (tgt := 12) C.1 C.2.1 dJ21_leftOf_5 (by decide) ?_
  exact r_q (v := none) C hr (by first | exact Or.inl ⟨_, rfl⟩ | exact Or.inr ⟨_, rfl⟩) hlk hS ⟨rfl, rfl⟩ dJ21_leftOf_12

theorem gf_J21_111_16 {p : Program} {l : Launch} {e : Env} {R : Room} {s : State} {m : MethodId} {args : Array Value} {below : List Frame} {meth : Method} {c : Code} {H : Heap} {locs : List Loc} {cells slots : Nat} {Q : State → Prop} {cc : ByteArray} {pc : Nat} {ls : Array Slot} {rest : List Value} {X : tl_X} {σ : tl_H} {a : Nat} {fs : List Value} {v : Value} (C : tl_C X p s m args c cc RJ21) (hS : tl_S X s σ H locs) (he : σ a = some (oO 16 fs)) (hv : fs[2]? = some v) (hdg : decode cc pc = .ok (.getfield 111, 3)) (kk : W p l e R s m args below meth c H locs cells slots Q (F0 m (pc + 3) ls (v :: rest))) : W p l e R s m args below meth c H locs cells slots Q (F0 m pc ls (.ref a :: rest)) :=
  h_get (ref := "java/util/TreeMap$Entry") C hS in_J30 rfl 2 (by decide) q745 (fun _ h => h) he hv hdg kk
set_option maxHeartbeats 4000000 in
theorem m_leftOf_r (l : Launch) (X : tl_X) (σ : tl_H) (a k v : Nat) (lf rg pa : Option Nat) (co : Int) (ha : σ a = some (cE k v lf rg pa co))  : tl_Met l X yJ21_leftOf cJ21_leftOf 1 ((Option.some (FieldType.object "java/util/TreeMap$Entry"))) 1 (0) (0) [.ref (a)] σ (tl_Qq X (fun r σ' => r = lf ∧ σ = σ')) := by
  refine tl_start (by decide) (Nat.le_of_ble_eq_true rfl) (fun p e s m below meth c ls C hr hml hlk hnm hS hl => ?_)
  have hl : lv_has ls 1 [(0, .ref (a))] := hl
  refine lv_aload_n C.1 C.2.1 dJ21_leftOf_0 rfl (lv_at hl 0 rfl) ?_
  refine lv_ifnonnull (tgt := 8) C.1 C.2.1 dJ21_leftOf_1 (by decide) ?_
  refine lv_aload_n C.1 C.2.1 dJ21_leftOf_8 rfl (lv_at hl 0 rfl) ?_
  refine gf_J21_111_16 C hS ha rfl dJ21_leftOf_9 ?_
  exact r_q (v := (lf)) C hr (by first | exact Or.inl ⟨_, rfl⟩ | exact Or.inr ⟨_, rfl⟩) hlk hS ⟨rfl, rfl⟩ dJ21_leftOf_12

set_option maxHeartbeats 4000000 in
theorem m_rightOf_n (l : Launch) (X : tl_X) (σ : tl_H)  : tl_Met l X yJ21_rightOf cJ21_rightOf 1 ((Option.some (FieldType.object "java/util/TreeMap$Entry"))) 1 (0) (0) [.null] σ (tl_Qq X (fun r σ' => r = none ∧ σ = σ')) := by
  refine tl_start (by decide) (Nat.le_of_ble_eq_true rfl) (fun p e s m below meth c ls C hr hml hlk hnm hS hl => ?_)
  have hl : lv_has ls 1 [(0, .null)] := hl
  refine lv_aload_nN C.1 C.2.1 dJ21_rightOf_0 rfl (lv_at hl 0 rfl) ?_
  refine lv_ifnonnullN C.1 C.2.1 dJ21_rightOf_1 ?_
  refine lv_null C.1 C.2.1 dJ21_rightOf_4 ?_
  refine lv_goto (tgt := 12) C.1 C.2.1 dJ21_rightOf_5 (by decide) ?_
  exact r_q (v := none) C hr (by first | exact Or.inl ⟨_, rfl⟩ | exact Or.inr ⟨_, rfl⟩) hlk hS ⟨rfl, rfl⟩ dJ21_rightOf_12

theorem gf_J21_114_16 {p : Program} {l : Launch} {e : Env} {R : Room} {s : State} {m : MethodId} {args : Array Value} {below : List Frame} {meth : Method} {c : Code} {H : Heap} {locs : List Loc} {cells slots : Nat} {Q : State → Prop} {cc : ByteArray} {pc : Nat} {ls : Array Slot} {rest : List Value} {X : tl_X} {σ : tl_H} {a : Nat} {fs : List Value} {v : Value} (C : tl_C X p s m args c cc RJ21) (hS : tl_S X s σ H locs) (he : σ a = some (oO 16 fs)) (hv : fs[3]? = some v) (hdg : decode cc pc = .ok (.getfield 114, 3)) (kk : W p l e R s m args below meth c H locs cells slots Q (F0 m (pc + 3) ls (v :: rest))) : W p l e R s m args below meth c H locs cells slots Q (F0 m pc ls (.ref a :: rest)) :=
  h_get (ref := "java/util/TreeMap$Entry") C hS in_J30 rfl 3 (by decide) q746 (fun _ h => h) he hv hdg kk
set_option maxHeartbeats 4000000 in
theorem m_rightOf_r (l : Launch) (X : tl_X) (σ : tl_H) (a k v : Nat) (lf rg pa : Option Nat) (co : Int) (ha : σ a = some (cE k v lf rg pa co))  : tl_Met l X yJ21_rightOf cJ21_rightOf 1 ((Option.some (FieldType.object "java/util/TreeMap$Entry"))) 1 (0) (0) [.ref (a)] σ (tl_Qq X (fun r σ' => r = rg ∧ σ = σ')) := by
  refine tl_start (by decide) (Nat.le_of_ble_eq_true rfl) (fun p e s m below meth c ls C hr hml hlk hnm hS hl => ?_)
  have hl : lv_has ls 1 [(0, .ref (a))] := hl
  refine lv_aload_n C.1 C.2.1 dJ21_rightOf_0 rfl (lv_at hl 0 rfl) ?_
  refine lv_ifnonnull (tgt := 8) C.1 C.2.1 dJ21_rightOf_1 (by decide) ?_
  refine lv_aload_n C.1 C.2.1 dJ21_rightOf_8 rfl (lv_at hl 0 rfl) ?_
  refine gf_J21_114_16 C hS ha rfl dJ21_rightOf_9 ?_
  exact r_q (v := (rg)) C hr (by first | exact Or.inl ⟨_, rfl⟩ | exact Or.inr ⟨_, rfl⟩) hlk hS ⟨rfl, rfl⟩ dJ21_rightOf_12

set_option maxHeartbeats 4000000 in
theorem m_colorOf_n (l : Launch) (X : tl_X) (σ : tl_H)  : tl_Met l X yJ21_colorOf cJ21_colorOf 1 ((Option.some FieldType.boolean)) 1 (0) (0) [.null] σ (tl_Qi X (fun r σ' => r = iI (1) ∧ σ = σ')) := by
  refine tl_start (by decide) (Nat.le_of_ble_eq_true rfl) (fun p e s m below meth c ls C hr hml hlk hnm hS hl => ?_)
  have hl : lv_has ls 1 [(0, .null)] := hl
  refine lv_aload_nN C.1 C.2.1 dJ21_colorOf_0 rfl (lv_at hl 0 rfl) ?_
  refine lv_ifnonnullN C.1 C.2.1 dJ21_colorOf_1 ?_
  refine ti_const C.1 C.2.1 dJ21_colorOf_4 ?_
  refine lv_goto (tgt := 12) C.1 C.2.1 dJ21_colorOf_5 (by decide) ?_
  exact r_z (z := 1) C hr hlk hS (by first | exact tb01 _ | omega | decide) ⟨rfl, rfl⟩ dJ21_colorOf_12

theorem gf_J21_290_16 {p : Program} {l : Launch} {e : Env} {R : Room} {s : State} {m : MethodId} {args : Array Value} {below : List Frame} {meth : Method} {c : Code} {H : Heap} {locs : List Loc} {cells slots : Nat} {Q : State → Prop} {cc : ByteArray} {pc : Nat} {ls : Array Slot} {rest : List Value} {X : tl_X} {σ : tl_H} {a : Nat} {fs : List Value} {v : Value} (C : tl_C X p s m args c cc RJ21) (hS : tl_S X s σ H locs) (he : σ a = some (oO 16 fs)) (hv : fs[5]? = some v) (hdg : decode cc pc = .ok (.getfield 290, 3)) (kk : W p l e R s m args below meth c H locs cells slots Q (F0 m (pc + 3) ls (v :: rest))) : W p l e R s m args below meth c H locs cells slots Q (F0 m pc ls (.ref a :: rest)) :=
  h_get (ref := "java/util/TreeMap$Entry") C hS in_J30 rfl 5 (by decide) q750 (fun _ h => h) he hv hdg kk
set_option maxHeartbeats 4000000 in
theorem m_colorOf_r (l : Launch) (X : tl_X) (σ : tl_H) (a k v : Nat) (lf rg pa : Option Nat) (co : Int) (ha : σ a = some (cE k v lf rg pa co)) (hc : co = 0 ∨ co = 1) : tl_Met l X yJ21_colorOf cJ21_colorOf 1 ((Option.some FieldType.boolean)) 1 (0) (0) [.ref (a)] σ (tl_Qi X (fun r σ' => r = iI (co) ∧ σ = σ')) := by
  refine tl_start (by decide) (Nat.le_of_ble_eq_true rfl) (fun p e s m below meth c ls C hr hml hlk hnm hS hl => ?_)
  have hl : lv_has ls 1 [(0, .ref (a))] := hl
  refine lv_aload_n C.1 C.2.1 dJ21_colorOf_0 rfl (lv_at hl 0 rfl) ?_
  refine lv_ifnonnull (tgt := 8) C.1 C.2.1 dJ21_colorOf_1 (by decide) ?_
  refine lv_aload_n C.1 C.2.1 dJ21_colorOf_8 rfl (lv_at hl 0 rfl) ?_
  refine gf_J21_290_16 C hS ha rfl dJ21_colorOf_9 ?_
  exact r_z (z := co) C hr hlk hS (by first | exact tb01 _ | omega | decide) ⟨rfl, rfl⟩ dJ21_colorOf_12

theorem gp_J21_290_16 {p : Program} {l : Launch} {e : Env} {R : Room} {s : State} {m : MethodId} {args : Array Value} {below : List Frame} {meth : Method} {c : Code} {H : Heap} {locs : List Loc} {cells slots : Nat} {Q : State → Prop} {cc : ByteArray} {pc : Nat} {ls : Array Slot} {rest : List Value} {X : tl_X} {σ : tl_H} {a : Nat} {fs : List Value} {v : Value} (C : tl_C X p s m args c cc RJ21) (hS : tl_S X s σ H locs) (he : σ a = some (oO 16 fs)) (hn : narrow (tyJ30 5) v = v) (hfit : fits (tyJ30 5) v = true) (hl : 5 < fs.length) (hdg : decode cc pc = .ok (.putfield 290, 3)) (kk : ∀ (H1 : Heap) (locs1 : List Loc), tl_S X s (va_up σ a (some (oO 16 (fs.set 5 v)))) H1 locs1 → W p l e R s m args below meth c H1 locs1 cells slots Q (F0 m (pc + 3) ls rest)) : W p l e R s m args below meth c H locs cells slots Q (F0 m pc ls (v :: .ref a :: rest)) :=
  h_put (ref := "java/util/TreeMap$Entry") C hS in_J30 tyJ30 tyJ30_ok nmJ30 rfl 5 (by decide) q750 (fun _ h => h) rfl (by decide) he hn hfit hl hdg kk
set_option maxHeartbeats 4000000 in
theorem m_setColor (l : Launch) (X : tl_X) (σ : tl_H) (a k v : Nat) (lf rg pa : Option Nat) (co : Int) (ha : σ a = some (cE k v lf rg pa co)) (c2 : Int) (hc : c2 = 0 ∨ c2 = 1) : tl_Met l X yJ21_setColor cJ21_setColor 2 ((Option.none : Option FieldType)) 1 (0) (0) [.ref (a), .int (iI (c2))] σ (tl_Qv X (fun σ' => σ' = va_up σ a (some (cE k v lf rg pa c2)))) := by
  refine tl_start (by decide) (Nat.le_of_ble_eq_true rfl) (fun p e s m below meth c ls C hr hml hlk hnm hS hl => ?_)
  have hl : lv_has ls 2 [(0, .ref (a)), (1, .int (iI (c2)))] := hl
  refine lv_aload_n C.1 C.2.1 dJ21_setColor_0 rfl (lv_at hl 0 rfl) ?_
  refine lv_ifnull C.1 C.2.1 dJ21_setColor_1 ?_
  refine lv_aload_n C.1 C.2.1 dJ21_setColor_4 rfl (lv_at hl 0 rfl) ?_
  refine lv_iload_n C.1 C.2.1 dJ21_setColor_5 rfl (lv_at hl 1 rfl) ?_
  refine gp_J21_290_16 C hS ha (iI_bit (by omega)) (iI_fitb (by omega)) (Nat.le_of_ble_eq_true rfl) dJ21_setColor_6 (fun H locs hS => ?_)
  obtain ⟨σ_1, eσ_1⟩ : ∃ z, z = va_up σ (a) (some (oO 16 [.ref (k), .ref (v), va_rf (lf), va_rf (rg), va_rf (pa), .int (iI (c2))])) := ⟨_, rfl⟩
  have hS : tl_S X s σ_1 H locs := by rw [eσ_1]; exact hS
  have he_2 : σ_1 (a) = some (oO 16 [.ref (k), .ref (v), va_rf (lf), va_rf (rg), va_rf (pa), .int (iI (c2))]) := by rw [eσ_1]; exact up_s
  exact r_v C hr hlk hS (by rw [eσ_1]) dJ21_setColor_9

set_option maxHeartbeats 4000000 in
theorem m_AM_init (l : Launch) (X : tl_X) (σ : tl_H) (a : Nat) : tl_Met l X yJ20_init cJ20_init 1 ((Option.none : Option FieldType)) 1 (0) (0) [.ref (a)] σ (tl_Qv X (fun σ' => σ = σ')) := by
  refine tl_start (by decide) (Nat.le_of_ble_eq_true rfl) (fun p e s m below meth c ls C hr hml hlk hnm hS hl => ?_)
  have hl : lv_has ls 1 [(0, .ref (a))] := hl
  refine lv_aload_n C.1 C.2.1 dJ20_init_0 rfl (lv_at hl 0 rfl) ?_
  refine h_obj C hml hl.1 q417 dJ20_init_1 (by show 1 ≤ 1; decide) (by show 40 ≤ 40 * 1; decide) (Nat.le_of_ble_eq_true rfl) ?_
  exact r_v C hr hlk hS rfl dJ20_init_4

set_option maxHeartbeats 4000000 in
theorem m_AT_init (l : Launch) (X : tl_X) (σ : tl_H) (a : Nat) : tl_Met l X yJ22_init cJ22_init 1 ((Option.none : Option FieldType)) 2 (0) (0) [.ref (a)] σ (tl_Qv X (fun σ' => σ = σ')) := by
  refine tl_start (by decide) (Nat.le_of_ble_eq_true rfl) (fun p e s m below meth c ls C hr hml hlk hnm hS hl => ?_)
  have hl : lv_has ls 1 [(0, .ref (a))] := hl
  refine lv_aload_n C.1 C.2.1 dJ22_init_0 rfl (lv_at hl 0 rfl) ?_
  refine tl_cv (t_I (n := 0) C hml hS (m_AC_init l X σ (a)) q449 q113 q48 q114 rfl (by decide +kernel) rfl hl.1 rfl (Nat.le_of_ble_eq_true rfl) dJ22_init_1 ⟨Nat.le_of_ble_eq_true rfl, Nat.le_of_ble_eq_true rfl⟩ ⟨Nat.le_refl _, Nat.le_refl _⟩) hS (fun σ_3 H locs hP_2 hS => ?_)
  obtain rfl := hP_2
  exact r_v C hr hlk hS rfl dJ22_init_4

theorem gp_J21_7_13 {p : Program} {l : Launch} {e : Env} {R : Room} {s : State} {m : MethodId} {args : Array Value} {below : List Frame} {meth : Method} {c : Code} {H : Heap} {locs : List Loc} {cells slots : Nat} {Q : State → Prop} {cc : ByteArray} {pc : Nat} {ls : Array Slot} {rest : List Value} {X : tl_X} {σ : tl_H} {a : Nat} {fs : List Value} {v : Value} (C : tl_C X p s m args c cc RJ21) (hS : tl_S X s σ H locs) (he : σ a = some (oO 13 fs)) (hn : narrow (tyJ21 4) v = v) (hfit : fits (tyJ21 4) v = true) (hl : 4 < fs.length) (hdg : decode cc pc = .ok (.putfield 7, 3)) (kk : ∀ (H1 : Heap) (locs1 : List Loc), tl_S X s (va_up σ a (some (oO 13 (fs.set 4 v)))) H1 locs1 → W p l e R s m args below meth c H1 locs1 cells slots Q (F0 m (pc + 3) ls rest)) : W p l e R s m args below meth c H locs cells slots Q (F0 m pc ls (v :: .ref a :: rest)) :=
  h_put (ref := "java/util/TreeMap") C hS in_J21 tyJ21 tyJ21_ok nmJ21 rfl 4 (by decide) q420 (fun _ h => h) rfl (by decide) he hn hfit hl hdg kk
theorem gp_J21_13_13 {p : Program} {l : Launch} {e : Env} {R : Room} {s : State} {m : MethodId} {args : Array Value} {below : List Frame} {meth : Method} {c : Code} {H : Heap} {locs : List Loc} {cells slots : Nat} {Q : State → Prop} {cc : ByteArray} {pc : Nat} {ls : Array Slot} {rest : List Value} {X : tl_X} {σ : tl_H} {a : Nat} {fs : List Value} {v : Value} (C : tl_C X p s m args c cc RJ21) (hS : tl_S X s σ H locs) (he : σ a = some (oO 13 fs)) (hn : narrow (tyJ21 5) v = v) (hfit : fits (tyJ21 5) v = true) (hl : 5 < fs.length) (hdg : decode cc pc = .ok (.putfield 13, 3)) (kk : ∀ (H1 : Heap) (locs1 : List Loc), tl_S X s (va_up σ a (some (oO 13 (fs.set 5 v)))) H1 locs1 → W p l e R s m args below meth c H1 locs1 cells slots Q (F0 m (pc + 3) ls rest)) : W p l e R s m args below meth c H locs cells slots Q (F0 m pc ls (v :: .ref a :: rest)) :=
  h_put (ref := "java/util/TreeMap") C hS in_J21 tyJ21 tyJ21_ok nmJ21 rfl 5 (by decide) q421 (fun _ h => h) rfl (by decide) he hn hfit hl hdg kk
theorem gq_J21_16_13 {p : Program} {l : Launch} {e : Env} {R : Room} {s : State} {m : MethodId} {args : Array Value} {below : List Frame} {meth : Method} {c : Code} {H : Heap} {locs : List Loc} {cells slots : Nat} {Q : State → Prop} {cc : ByteArray} {pc : Nat} {ls : Array Slot} {rest : List Value} {X : tl_X} {σ : tl_H} {a : Nat} {fs : List Value} {v : Value} (C : tl_C X p s m args c cc RJ21) (hin : meth.name = "<init>") (hS : tl_S X s σ H locs) (hw : X.2.1 ≤ a) (he : σ a = some (oO 13 fs)) (hn : narrow (tyJ21 2) v = v) (hfit : fits (tyJ21 2) v = true) (hl : 2 < fs.length) (hdg : decode cc pc = .ok (.putfield 16, 3)) (kk : ∀ (H1 : Heap) (locs1 : List Loc), tl_S X s (va_up σ a (some (oO 13 (fs.set 2 v)))) H1 locs1 → W p l e R s m args below meth c H1 locs1 cells slots Q (F0 m (pc + 3) ls rest)) : W p l e R s m args below meth c H locs cells slots Q (F0 m pc ls (v :: .ref a :: rest)) :=
  h_putF (ref := "java/util/TreeMap") C hin hS in_J21 tyJ21 tyJ21_ok nmJ21 rfl 2 (by decide) q418 (fun _ h => h) rfl rfl hw he hn hfit hl hdg kk
set_option maxHeartbeats 4000000 in
theorem m_TM_init (l : Launch) (X : tl_X) (σ : tl_H) (a : Nat) (hw : X.2.1 ≤ a) (ha : σ a = some (oO 13 [.null, .null, .null, .null, .int (iI 0), .int (iI 0), .null, .null, .null])) : tl_Met l X yJ21_init cJ21_init 1 ((Option.none : Option FieldType)) 2 (0) (0) [.ref (a)] σ (tl_Qv X (fun σ' => σ' = va_up σ a (some (cT none 0 0 none)))) := by
  refine tl_start (by decide) (Nat.le_of_ble_eq_true rfl) (fun p e s m below meth c ls C hr hml hlk hnm hS hl => ?_)
  have hl : lv_has ls 1 [(0, .ref (a))] := hl
  refine lv_aload_n C.1 C.2.1 dJ21_init_0 rfl (lv_at hl 0 rfl) ?_
  refine tl_cv (t_I (n := 0) C hml hS (m_AM_init l X σ (a)) q414 q415 q73 q416 rfl (by decide +kernel) rfl hl.1 rfl (Nat.le_of_ble_eq_true rfl) dJ21_init_1 ⟨Nat.le_of_ble_eq_true rfl, Nat.le_of_ble_eq_true rfl⟩ ⟨Nat.le_refl _, Nat.le_refl _⟩) hS (fun σ_3 H locs hP_2 hS => ?_)
  obtain rfl := hP_2
  refine lv_aload_n C.1 C.2.1 dJ21_init_4 rfl (lv_at hl 0 rfl) ?_
  refine ti_const C.1 C.2.1 dJ21_init_5 ?_
  refine gp_J21_7_13 C hS ha rfl rfl (Nat.le_of_ble_eq_true rfl) dJ21_init_6 (fun H locs hS => ?_)
  obtain ⟨σ_4, eσ_4⟩ : ∃ z, z = va_up σ (a) (some (oO 13 [.null, .null, .null, .null, .int (iI (0)), .int (iI (0)), .null, .null, .null])) := ⟨_, rfl⟩
  have hS : tl_S X s σ_4 H locs := by rw [eσ_4]; exact hS
  have he_5 : σ_4 (a) = some (oO 13 [.null, .null, .null, .null, .int (iI (0)), .int (iI (0)), .null, .null, .null]) := by rw [eσ_4]; exact up_s
  refine lv_aload_n C.1 C.2.1 dJ21_init_9 rfl (lv_at hl 0 rfl) ?_
  refine ti_const C.1 C.2.1 dJ21_init_10 ?_
  refine gp_J21_13_13 C hS he_5 rfl rfl (Nat.le_of_ble_eq_true rfl) dJ21_init_11 (fun H locs hS => ?_)
  obtain ⟨σ_6, eσ_6⟩ : ∃ z, z = va_up σ_4 (a) (some (oO 13 [.null, .null, .null, .null, .int (iI (0)), .int (iI (0)), .null, .null, .null])) := ⟨_, rfl⟩
  have hS : tl_S X s σ_6 H locs := by rw [eσ_6]; exact hS
  have he_7 : σ_6 (a) = some (oO 13 [.null, .null, .null, .null, .int (iI (0)), .int (iI (0)), .null, .null, .null]) := by rw [eσ_6]; exact up_s
  refine lv_aload_n C.1 C.2.1 dJ21_init_14 rfl (lv_at hl 0 rfl) ?_
  refine lv_null C.1 C.2.1 dJ21_init_15 ?_
  refine gq_J21_16_13 C hnm hS hw he_7 rfl rfl (Nat.le_of_ble_eq_true rfl) dJ21_init_16 (fun H locs hS => ?_)
  obtain ⟨σ_8, eσ_8⟩ : ∃ z, z = va_up σ_6 (a) (some (oO 13 [.null, .null, .null, .null, .int (iI (0)), .int (iI (0)), .null, .null, .null])) := ⟨_, rfl⟩
  have hS : tl_S X s σ_8 H locs := by rw [eσ_8]; exact hS
  have he_9 : σ_8 (a) = some (oO 13 [.null, .null, .null, .null, .int (iI (0)), .int (iI (0)), .null, .null, .null]) := by rw [eσ_8]; exact up_s
  exact r_v C hr hlk hS (by rw [eσ_8, eσ_6, eσ_4, up_uu, up_uu]; rfl) dJ21_init_19

theorem gp_J23_7_14 {p : Program} {l : Launch} {e : Env} {R : Room} {s : State} {m : MethodId} {args : Array Value} {below : List Frame} {meth : Method} {c : Code} {H : Heap} {locs : List Loc} {cells slots : Nat} {Q : State → Prop} {cc : ByteArray} {pc : Nat} {ls : Array Slot} {rest : List Value} {X : tl_X} {σ : tl_H} {a : Nat} {fs : List Value} {v : Value} (C : tl_C X p s m args c cc RJ23) (hS : tl_S X s σ H locs) (he : σ a = some (oO 14 fs)) (hn : narrow (tyJ23 0) v = v) (hfit : fits (tyJ23 0) v = true) (hl : 0 < fs.length) (hdg : decode cc pc = .ok (.putfield 7, 3)) (kk : ∀ (H1 : Heap) (locs1 : List Loc), tl_S X s (va_up σ a (some (oO 14 (fs.set 0 v)))) H1 locs1 → W p l e R s m args below meth c H1 locs1 cells slots Q (F0 m (pc + 3) ls rest)) : W p l e R s m args below meth c H locs cells slots Q (F0 m pc ls (v :: .ref a :: rest)) :=
  h_put (ref := "java/util/TreeSet") C hS in_J23 tyJ23 tyJ23_ok nmJ23 rfl 0 (by decide) q450 (fun _ h => h) rfl (by decide) he hn hfit hl hdg kk
set_option maxHeartbeats 4000000 in
theorem m_TS_init2 (l : Launch) (X : tl_X) (σ : tl_H) (a T : Nat) (hw : X.2.1 ≤ a) (ha : σ a = some (oO 14 [.null])) : tl_Met l X yJ23_init_2 cJ23_init_2 2 ((Option.none : Option FieldType)) 3 (0) (0) [.ref (a), .ref (T)] σ (tl_Qv X (fun σ' => σ' = va_up σ a (some (oO 14 [.ref T])))) := by
  refine tl_start (by decide) (Nat.le_of_ble_eq_true rfl) (fun p e s m below meth c ls C hr hml hlk hnm hS hl => ?_)
  have hl : lv_has ls 2 [(0, .ref (a)), (1, .ref (T))] := hl
  refine lv_aload_n C.1 C.2.1 dJ23_init_2_0 rfl (lv_at hl 0 rfl) ?_
  refine tl_cv (t_I (n := 0) C hml hS (m_AT_init l X σ (a)) q446 q447 q78 q448 rfl (by decide +kernel) rfl hl.1 rfl (Nat.le_of_ble_eq_true rfl) dJ23_init_2_1 ⟨Nat.le_of_ble_eq_true rfl, Nat.le_of_ble_eq_true rfl⟩ ⟨Nat.le_refl _, Nat.le_refl _⟩) hS (fun σ_3 H locs hP_2 hS => ?_)
  obtain rfl := hP_2
  refine lv_aload_n C.1 C.2.1 dJ23_init_2_4 rfl (lv_at hl 0 rfl) ?_
  refine lv_aload_n C.1 C.2.1 dJ23_init_2_5 rfl (lv_at hl 1 rfl) ?_
  refine gp_J23_7_14 C hS ha rfl rfl (Nat.le_of_ble_eq_true rfl) dJ23_init_2_6 (fun H locs hS => ?_)
  obtain ⟨σ_4, eσ_4⟩ : ∃ z, z = va_up σ (a) (some (oO 14 [.ref (T)])) := ⟨_, rfl⟩
  have hS : tl_S X s σ_4 H locs := by rw [eσ_4]; exact hS
  have he_5 : σ_4 (a) = some (oO 14 [.ref (T)]) := by rw [eσ_4]; exact up_s
  exact r_v C hr hlk hS (by rw [eσ_4]) dJ23_init_2_9

theorem gq_J31_7_17 {p : Program} {l : Launch} {e : Env} {R : Room} {s : State} {m : MethodId} {args : Array Value} {below : List Frame} {meth : Method} {c : Code} {H : Heap} {locs : List Loc} {cells slots : Nat} {Q : State → Prop} {cc : ByteArray} {pc : Nat} {ls : Array Slot} {rest : List Value} {X : tl_X} {σ : tl_H} {a : Nat} {fs : List Value} {v : Value} (C : tl_C X p s m args c cc RJ31) (hin : meth.name = "<init>") (hS : tl_S X s σ H locs) (hw : X.2.1 ≤ a) (he : σ a = some (oO 17 fs)) (hn : narrow (tyJ31 0) v = v) (hfit : fits (tyJ31 0) v = true) (hl : 0 < fs.length) (hdg : decode cc pc = .ok (.putfield 7, 3)) (kk : ∀ (H1 : Heap) (locs1 : List Loc), tl_S X s (va_up σ a (some (oO 17 (fs.set 0 v)))) H1 locs1 → W p l e R s m args below meth c H1 locs1 cells slots Q (F0 m (pc + 3) ls rest)) : W p l e R s m args below meth c H locs cells slots Q (F0 m pc ls (v :: .ref a :: rest)) :=
  h_putF (ref := "java/util/TreeMap$KeySet") C hin hS in_J31 tyJ31 tyJ31_ok nmJ31 rfl 0 (by decide) q823 (fun _ h => h) rfl rfl hw he hn hfit hl hdg kk
set_option maxHeartbeats 4000000 in
theorem m_KS_init (l : Launch) (X : tl_X) (σ : tl_H) (a T : Nat) (hw : X.2.1 ≤ a) (ha : σ a = some (oO 17 [.null])) : tl_Met l X yJ31_init cJ31_init 2 ((Option.none : Option FieldType)) 3 (0) (0) [.ref (a), .ref (T)] σ (tl_Qv X (fun σ' => σ' = va_up σ a (some (oO 17 [.ref T])))) := by
  refine tl_start (by decide) (Nat.le_of_ble_eq_true rfl) (fun p e s m below meth c ls C hr hml hlk hnm hS hl => ?_)
  have hl : lv_has ls 2 [(0, .ref (a)), (1, .ref (T))] := hl
  refine lv_aload_n C.1 C.2.1 dJ31_init_0 rfl (lv_at hl 0 rfl) ?_
  refine tl_cv (t_I (n := 0) C hml hS (m_AT_init l X σ (a)) q822 q447 q78 q448 rfl (by decide +kernel) rfl hl.1 rfl (Nat.le_of_ble_eq_true rfl) dJ31_init_1 ⟨Nat.le_of_ble_eq_true rfl, Nat.le_of_ble_eq_true rfl⟩ ⟨Nat.le_refl _, Nat.le_refl _⟩) hS (fun σ_3 H locs hP_2 hS => ?_)
  obtain rfl := hP_2
  refine lv_aload_n C.1 C.2.1 dJ31_init_4 rfl (lv_at hl 0 rfl) ?_
  refine lv_aload_n C.1 C.2.1 dJ31_init_5 rfl (lv_at hl 1 rfl) ?_
  refine gq_J31_7_17 C hnm hS hw ha rfl rfl (Nat.le_of_ble_eq_true rfl) dJ31_init_6 (fun H locs hS => ?_)
  obtain ⟨σ_4, eσ_4⟩ : ∃ z, z = va_up σ (a) (some (oO 17 [.ref (T)])) := ⟨_, rfl⟩
  have hS : tl_S X s σ_4 H locs := by rw [eσ_4]; exact hS
  have he_5 : σ_4 (a) = some (oO 17 [.ref (T)]) := by rw [eσ_4]; exact up_s
  exact r_v C hr hlk hS (by rw [eσ_4]) dJ31_init_9

theorem df_J21 : ∀ j, j < 9 → defaultValue (tyJ21 j) = vp_V [.null, .null, .null, .null, .int (iI (0)), .int (iI (0)), .null, .null, .null] j := by
  intro j hj
  rcases (show j = 0 ∨ j = 1 ∨ j = 2 ∨ j = 3 ∨ j = 4 ∨ j = 5 ∨ j = 6 ∨ j = 7 ∨ j = 8 by omega) with rfl | rfl | rfl | rfl | rfl | rfl | rfl | rfl | rfl <;> rfl
set_option maxHeartbeats 4000000 in
theorem m_TS_init (l : Launch) (X : tl_X) (σ : tl_H) (a : Nat) (hw : X.2.1 ≤ a) (ha : σ a = some (oO 14 [.null])) : tl_Met l X yJ23_init cJ23_init 1 ((Option.none : Option FieldType)) 4 (1) (9) [.ref (a)] σ (tl_Qv X (fun σ' => ∃ T : Nat, σ T = none ∧ X.2.1 ≤ T ∧ T ≠ a ∧ σ' = va_up (va_up σ T (some (cT none 0 0 none))) a (some (oO 14 [.ref T])))) := by
  refine tl_start (by decide) (Nat.le_of_ble_eq_true rfl) (fun p e s m below meth c ls C hr hml hlk hnm hS hl => ?_)
  have hl : lv_has ls 1 [(0, .ref (a))] := hl
  refine lv_aload_n C.1 C.2.1 dJ23_init_0 rfl (lv_at hl 0 rfl) ?_
  refine h_new (ci := 13) (fs := [.null, .null, .null, .null, .int (iI (0)), .int (iI (0)), .null, .null, .null]) C hS in_J21 tyJ21 tyJ21_ok q409 q410 q74 rfl df_J21 (by show 0 + 1 ≤ 1; omega) (by show 0 + 9 ≤ 9; omega) dJ23_init_1 (fun q_1 H hS hq_1 hBq_1 => ?_)
  obtain ⟨σ_2, eσ_2⟩ : ∃ z, z = va_up σ q_1 (some (oO 13 [.null, .null, .null, .null, .int (iI (0)), .int (iI (0)), .null, .null, .null])) := ⟨_, rfl⟩
  rw [← eσ_2] at hS
  have he_3 := up_kq eσ_2 hq_1 ha
  have he_4 : σ_2 q_1 = some (oO 13 [.null, .null, .null, .null, .int (iI (0)), .int (iI (0)), .null, .null, .null]) := by rw [eσ_2]; exact up_s
  refine lv_dup C.1 C.2.1 dJ23_init_4 rfl ?_
  refine tl_cv (t_I (n := 0) C hml hS (m_TM_init l X σ_2 q_1 hBq_1 he_4) q411 q412 q74 q413 rfl (by decide +kernel) rfl hl.1 rfl (Nat.le_of_ble_eq_true rfl) dJ23_init_5 ⟨Nat.le_of_ble_eq_true rfl, Nat.le_of_ble_eq_true rfl⟩ ⟨by show 0 + 1 + (0) ≤ 1; omega, by show 0 + 9 + (0) ≤ 9; omega⟩) hS (fun σ_7 H locs hP_6 hS => ?_)
  have hqa : a ≠ q_1 := fun z => by rw [← z, ha] at hq_1; cases hq_1
  have hea : σ_7 a = some (oO 14 [.null]) := by rw [hP_6, up_n hqa]; exact he_3
  refine tl_cv (t_I (n := 1) C hml hS (m_TS_init2 l X σ_7 a q_1 hw hea) q443 q444 q79 q445 rfl (by decide +kernel) rfl hl.1 rfl (Nat.le_of_ble_eq_true rfl) dJ23_init_8 ⟨Nat.le_of_ble_eq_true rfl, Nat.le_of_ble_eq_true rfl⟩ ⟨by show 0 + 1 + (0) ≤ 1; omega, by show 0 + 9 + (0) ≤ 9; omega⟩) hS (fun σ_10 H locs hP_9 hS => ?_)
  refine W.widen (k := 1) (n := 9) (by omega) (by omega) ?_
  exact r_v C hr hlk hS ⟨q_1, hq_1, hBq_1, Ne.symm hqa, by rw [hP_9, hP_6, eσ_2, up_uu]⟩ dJ23_init_11

