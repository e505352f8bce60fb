/-! ArrayList.remove, LinkedList (printed by gen_list3.py) -/
set_option maxRecDepth 100000
set_option maxHeartbeats 4000000 in
theorem m_equals (l : Launch) (X : tl_X) (σ : tl_H) (a b : Nat) : tl_Met l X yJ37_equals cJ37_equals 2 ((Option.some FieldType.boolean)) 1 (0) (0) [.ref (a), .ref (b)] σ (tl_Qi X (fun r σ' => r = iI (tb (decide (a = b))) ∧ σ = σ')) := by
  refine tl_startF (by decide +kernel) (Nat.le_of_ble_eq_true rfl) (fun p e s m below meth c ls C hr hml hlk hnm hS hl => ?_)
  have hl : lv_has ls 2 [(0, .ref (a)), (1, .ref (b))] := hl
  refine lv_aload_n C.1 C.2.1 dJ37_equals_0 rfl (lv_at hl 0 rfl) ?_
  refine lv_aload_n C.1 C.2.1 dJ37_equals_1 rfl (lv_at hl 1 rfl) ?_
  refine lv_acmp_ne (tgt := 9) (rx := (some (a))) (ry := (some (b))) C.1 C.2.1 dJ37_equals_2 (by decide) (fun hc_1 => ?_) (fun hc_1 => ?_)
  · skip
    refine ti_const C.1 C.2.1 dJ37_equals_9 ?_
    exact r_z (z := 0) C hr hlk hS (by first | exact tb01 _ | omega | decide) ⟨congrArg iI (tb_f (fun z => hc_1 (congrArg some z))).symm, rfl⟩ dJ37_equals_10
  · skip
    refine ti_const C.1 C.2.1 dJ37_equals_5 ?_
    refine lv_goto (tgt := 10) C.1 C.2.1 dJ37_equals_6 (by decide) ?_
    exact r_z (z := 1) C hr hlk hS (by first | exact tb01 _ | omega | decide) ⟨congrArg iI (tb_t (Option.some.inj hc_1)).symm, rfl⟩ dJ37_equals_10

set_option maxHeartbeats 4000000 in
theorem m_AL_remove (l : Launch) (X : tl_X) (σ : tl_H) (L : Nat) (md n : Int) (f : Int → Nat) (arr cap : Nat) (hAL : AL X σ L md n f arr cap) (v : Nat) (vs : List Value) (hv : σ v = some (oO 6 vs)) (hO : AO σ n f) (k : Int) (hk : 0 ≤ k ∧ k < n) (hfk : f k = v) (hlt : ∀ j : Int, 0 ≤ j → j < k → f j ≠ v) : tl_Met l X yJ2_remove cJ2_remove 5 ((Option.some FieldType.boolean)) 2 (0) (0) [.ref (L), .ref (v)] σ (tl_Qi X (fun r σ' => r = iI 1 ∧ AL X σ' L (md + 1) (n - 1) (fun i => if i < k then f i else f (i + 1)) arr cap ∧ ALF X σ σ' L arr arr)) := by
  obtain ⟨hL, ⟨g, hA, hg⟩, hn0, hnc, hc, hz⟩ := hAL
  refine tl_start (by decide) (Nat.le_of_ble_eq_true rfl) (fun p e s m below meth c ls C hr hml hlk hnm hS hl => ?_)
  have hl : lv_has ls 5 [(0, .ref (L)), (1, .ref (v))] := hl
  refine lv_aload_n C.1 C.2.1 dJ2_remove_0 rfl (lv_at hl 0 rfl) ?_
  refine gf_J2_9_9 C hS hL rfl dJ2_remove_1 ?_
  refine lv_astore_n (lv' := [(2, .ref (arr)), (0, .ref (L)), (1, .ref (v))]) C.1 C.2.1 dJ2_remove_4 rfl hl (by decide) rfl (fun ls hl => ?_)
  refine lv_aload_n C.1 C.2.1 dJ2_remove_5 rfl (lv_at hl 1 rfl) ?_
  refine gf_J2_48_9 C hS hL rfl dJ2_remove_6 ?_
  refine lv_istore_n (lv' := [(3, .int (iI (n))), (2, .ref (arr)), (0, .ref (L)), (1, .ref (v))]) C.1 C.2.1 dJ2_remove_9 rfl hl (by decide) rfl (fun ls hl => ?_)
  refine ti_const C.1 C.2.1 dJ2_remove_10 ?_
  refine lv_istore (lv' := [(4, .int (iI (0))), (3, .int (iI (n))), (2, .ref (arr)), (0, .ref (L)), (1, .ref (v))]) C.1 C.2.1 dJ2_remove_11 hl (by decide) rfl (fun ls hl => ?_)
  refine lv_aload_n C.1 C.2.1 dJ2_remove_13 rfl (lv_at hl 4 rfl) ?_
  refine lv_ifnonnull (tgt := 39) C.1 C.2.1 dJ2_remove_14 (by decide) ?_
  have loop_1 : ∀ (n_2 : Nat) (i : Int), 0 ≤ i ∧ i ≤ k → k - i < (n_2 : Int) → ∀ (H : Heap) (locs : List Loc) (ls : Array Slot), tl_S X s σ H locs → lv_has ls 5 [(4, .int (iI (i))), (3, .int (iI (n))), (2, .ref (arr)), (0, .ref (L)), (1, .ref (v))] → W p l e (tl_rm 2 (0) (0)) s m ([.ref (L), .ref (v)] : List Value).toArray below meth c H locs (0) (0) (MQ below (tl_Qi X (fun r σ' => r = iI 1 ∧ AL X σ' L (md + 1) (n - 1) (fun i => if i < k then f i else f (i + 1)) arr cap ∧ ALF X σ σ' L arr arr)) ([.ref (L), .ref (v)] : List Value).toArray s (0) (0) (tl_A X)) (F0 m 39 ls []) := by
    intro n_2
    induction n_2 with
    | zero => intro i hinv hms; omega
    | succ n_2 ih_3 =>
      intro i hinv hms_4  H locs ls hS hl
      obtain ⟨hi0, hi1⟩ := hinv
      refine lv_iload C.1 C.2.1 dJ2_remove_39 (lv_at hl 0 rfl) ?_
      refine lv_iload_n C.1 C.2.1 dJ2_remove_41 rfl (lv_at hl 1 rfl) ?_
      refine ti_icmp_ge (tgt := 65) C.1 C.2.1 dJ2_remove_42 (by decide) ⟨by omega, by omega⟩ ⟨by omega, by omega⟩ (fun hc_5 => ?_) (fun hc_5 => ?_)
      · skip
        exfalso; omega
      · skip
        refine lv_aload_n C.1 C.2.1 dJ2_remove_45 rfl (lv_at hl 4 rfl) ?_
        refine lv_aload_n C.1 C.2.1 dJ2_remove_46 rfl (lv_at hl 2 rfl) ?_
        refine lv_iload C.1 C.2.1 dJ2_remove_47 (lv_at hl 0 rfl) ?_
        refine h_aaldY C hS hA (hg (i) (by omega) (by omega)) (by omega) (by omega) (by omega) dJ2_remove_49 ?_
        refine tl_ci (t_U (n := 1) (ci := 6) (K := RX8) C hml hS (m_equals l X σ (v) (f (i))) q1636 q1638 q1645 q1637 q1985 q1664 rfl (by decide +kernel) hv rfl rfl hl.1 rfl (Nat.le_of_ble_eq_true rfl) dJ2_remove_50 ⟨Nat.le_of_ble_eq_true rfl, Nat.le_of_ble_eq_true rfl⟩ ⟨Nat.le_refl _, Nat.le_refl _⟩) hS (fun r_6 σ_8 H locs hP_7 hS => ?_)
        obtain ⟨rfl, rfl⟩ := hP_7
        refine ti_tb_eq (tgt := 59) C.1 C.2.1 dJ2_remove_53 (by decide) (fun hc_9 => ?_) (fun hc_9 => ?_)
        · skip
          have hik : i ≠ k := fun z => hc_9 (by rw [z, hfk])
          refine ti_iinc (lv' := [(4, .int (iI ((i + 1)))), (3, .int (iI (n))), (2, .ref (arr)), (0, .ref (L)), (1, .ref (v))]) C.1 C.2.1 dJ2_remove_59 hl (k := 0) rfl (by decide) rfl (fun ls hl => ?_)
          refine lv_goto (tgt := 39) C.1 C.2.1 dJ2_remove_62 (by decide) ?_
          exact ih_3 ((i + 1)) ⟨by omega, by omega⟩ (by omega) _ _ _ hS (lv_sub hl [0, 1, 2, 3, 4] rfl)
        · skip
          refine lv_goto (tgt := 67) C.1 C.2.1 dJ2_remove_56 (by decide) ?_
          have hik : i = k := by
            rcases Int.lt_or_eq_of_le hi1 with h | h
            · exact absurd hc_9.symm (hlt i hi0 h)
            · exact h
          subst hik
          refine lv_aload_n C.1 C.2.1 dJ2_remove_67 rfl (lv_at hl 3 rfl) ?_
          refine lv_aload_n C.1 C.2.1 dJ2_remove_68 rfl (lv_at hl 2 rfl) ?_
          refine lv_iload C.1 C.2.1 dJ2_remove_69 (lv_at hl 0 rfl) ?_
          refine tl_cv (t_V (n := 2) (ci := 9) C hml hS (m_AL_fastRemove l X σ L md n f arr cap ⟨hL, ⟨g, hA, hg⟩, hn0, hnc, hc, hz⟩ hO i hk) q1665 q1667 qs20 q50 q1668 (by decide +kernel) hL rfl rfl hl.1 rfl (Nat.le_of_ble_eq_true rfl) dJ2_remove_71 ⟨Nat.le_of_ble_eq_true rfl, Nat.le_of_ble_eq_true rfl⟩ ⟨Nat.le_refl _, Nat.le_refl _⟩) hS (fun σ_12 H locs hP_11 hS => ?_)
          refine ti_const C.1 C.2.1 dJ2_remove_74 ?_
          exact r_z (z := 1) C hr hlk hS (by first | exact tb01 _ | omega | decide) ⟨rfl, hP_11⟩ dJ2_remove_75
  exact loop_1 (((k - (0) : Int)).toNat + 1) (0) ⟨by omega, by omega⟩ (by omega) _ _ _ hS (lv_sub hl [0, 1, 2, 3, 4] rfl)

/-- a linked list's cell: changes, size, first, last -/
abbrev cK (md n : Int) (fi la : Option Nat) : va_E := oO 11 [.int (iI md), .int (iI n), va_rf fi, va_rf la]
/-- a node: item, next, prev -/
abbrev cN (itm nx pv : Option Nat) : va_E := oO 12 [va_rf itm, va_rf nx, va_rf pv]
def kP (n : Int) (nd : Int → Nat) : Option Nat := if n = 0 then none else some (nd (n - 1))
/-- the linked list at K: its nodes, their items (what lies ahead of a node counts alone) -/
def KL (σ : tl_H) (K : Nat) (md n : Int) (fi : Option Nat) (nd itm : Int → Nat) : Prop :=
  σ K = some (cK md n fi (kP n nd)) ∧ 0 ≤ n ∧ (∀ i : Int, 0 ≤ i → i < n → ∃ nx : Option Nat, σ (nd i) = some (cN (some (itm i)) nx (kP i nd))) ∧ ∀ i j : Int, 0 ≤ i → i < n → 0 ≤ j → j < n → nd i = nd j → i = j
/-- no cell of a linked list -/
def ncl (e : va_E) : Prop := match e with
  | .inl _ => True
  | .inr q => q.1 ≠ 11 ∧ q.1 ≠ 12
/-- what a linked list's change leaves -/
def KF (X : tl_X) (σ σ' : tl_H) : Prop := tl_fix X σ' ∧ ∀ b e, σ b = some e → ncl e → σ' b = some e
theorem ncl_ne {σ : tl_H} {a b ci : Nat} {fs : List Value} {e : va_E} (hb : σ b = some e) (hn : ncl e) (ha : σ a = some (oO ci fs)) (hc : ci = 11 ∨ ci = 12) : b ≠ a := by
  intro z
  subst z
  rw [ha] at hb
  cases hb
  have := hn
  rcases hc with rfl | rfl
  · exact this.1 rfl
  · exact this.2 rfl
theorem gp_J36_7_12 {p : Program} {l : Launch} {e : Env} {R : Room} {s : State} {m : MethodId} {args : Array Value} {below : List Frame} {meth : Method} {c : Code} {H : Heap} {locs : List Loc} {cells slots : Nat} {Q : State → Prop} {cc : ByteArray} {pc : Nat} {ls : Array Slot} {rest : List Value} {X : tl_X} {σ : tl_H} {a : Nat} {fs : List Value} {v : Value} (C : tl_C X p s m args c cc RJ36) (hS : tl_S X s σ H locs) (he : σ a = some (oO 12 fs)) (hn : narrow (tyJ36 0) v = v) (hfit : fits (tyJ36 0) v = true) (hl : 0 < fs.length) (hdg : decode cc pc = .ok (.putfield 7, 3)) (kk : ∀ (H1 : Heap) (locs1 : List Loc), tl_S X s (va_up σ a (some (oO 12 (fs.set 0 v)))) H1 locs1 → W p l e R s m args below meth c H1 locs1 cells slots Q (F0 m (pc + 3) ls rest)) : W p l e R s m args below meth c H locs cells slots Q (F0 m pc ls (v :: .ref a :: rest)) :=
  h_put (ref := "java/util/LinkedList$Node") C hS in_J36 tyJ36 tyJ36_ok nmJ36 rfl 0 (by decide) q1285 (fun _ h => h) rfl (by decide) he hn hfit hl hdg kk
theorem gp_J36_13_12 {p : Program} {l : Launch} {e : Env} {R : Room} {s : State} {m : MethodId} {args : Array Value} {below : List Frame} {meth : Method} {c : Code} {H : Heap} {locs : List Loc} {cells slots : Nat} {Q : State → Prop} {cc : ByteArray} {pc : Nat} {ls : Array Slot} {rest : List Value} {X : tl_X} {σ : tl_H} {a : Nat} {fs : List Value} {v : Value} (C : tl_C X p s m args c cc RJ36) (hS : tl_S X s σ H locs) (he : σ a = some (oO 12 fs)) (hn : narrow (tyJ36 1) v = v) (hfit : fits (tyJ36 1) v = true) (hl : 1 < fs.length) (hdg : decode cc pc = .ok (.putfield 13, 3)) (kk : ∀ (H1 : Heap) (locs1 : List Loc), tl_S X s (va_up σ a (some (oO 12 (fs.set 1 v)))) H1 locs1 → W p l e R s m args below meth c H1 locs1 cells slots Q (F0 m (pc + 3) ls rest)) : W p l e R s m args below meth c H locs cells slots Q (F0 m pc ls (v :: .ref a :: rest)) :=
  h_put (ref := "java/util/LinkedList$Node") C hS in_J36 tyJ36 tyJ36_ok nmJ36 rfl 1 (by decide) q1287 (fun _ h => h) rfl (by decide) he hn hfit hl hdg kk
theorem gp_J36_17_12 {p : Program} {l : Launch} {e : Env} {R : Room} {s : State} {m : MethodId} {args : Array Value} {below : List Frame} {meth : Method} {c : Code} {H : Heap} {locs : List Loc} {cells slots : Nat} {Q : State → Prop} {cc : ByteArray} {pc : Nat} {ls : Array Slot} {rest : List Value} {X : tl_X} {σ : tl_H} {a : Nat} {fs : List Value} {v : Value} (C : tl_C X p s m args c cc RJ36) (hS : tl_S X s σ H locs) (he : σ a = some (oO 12 fs)) (hn : narrow (tyJ36 2) v = v) (hfit : fits (tyJ36 2) v = true) (hl : 2 < fs.length) (hdg : decode cc pc = .ok (.putfield 17, 3)) (kk : ∀ (H1 : Heap) (locs1 : List Loc), tl_S X s (va_up σ a (some (oO 12 (fs.set 2 v)))) H1 locs1 → W p l e R s m args below meth c H1 locs1 cells slots Q (F0 m (pc + 3) ls rest)) : W p l e R s m args below meth c H locs cells slots Q (F0 m pc ls (v :: .ref a :: rest)) :=
  h_put (ref := "java/util/LinkedList$Node") C hS in_J36 tyJ36 tyJ36_ok nmJ36 rfl 2 (by decide) q1289 (fun _ h => h) rfl (by decide) he hn hfit hl hdg kk
set_option maxHeartbeats 4000000 in
theorem m_No_init_n (l : Launch) (X : tl_X) (σ : tl_H) (a v : Nat) (ha : σ a = some (oO 12 [.null, .null, .null])) : tl_Met l X yJ36_init cJ36_init 4 ((Option.none : Option FieldType)) 1 (0) (0) [.ref (a), .null, .ref (v), .null] σ (tl_Qv X (fun σ' => σ' = va_up σ a (some (cN (some v) none none)))) := by
  refine tl_start (by decide) (Nat.le_of_ble_eq_true rfl) (fun p e s m below meth c ls C hr hml hlk hnm hS hl => ?_)
  have hl : lv_has ls 4 [(0, .ref (a)), (1, .null), (2, .ref (v)), (3, .null)] := hl
  refine lv_aload_n C.1 C.2.1 dJ36_init_0 rfl (lv_at hl 0 rfl) ?_
  refine h_obj C hml hl.1 q1284 dJ36_init_1 (by show 1 ≤ 1; decide) (by show 40 ≤ 40 * 1; decide) (Nat.le_of_ble_eq_true rfl) ?_
  refine lv_aload_n C.1 C.2.1 dJ36_init_4 rfl (lv_at hl 0 rfl) ?_
  refine lv_aload_n C.1 C.2.1 dJ36_init_5 rfl (lv_at hl 2 rfl) ?_
  refine gp_J36_7_12 C hS ha rfl rfl (Nat.le_of_ble_eq_true rfl) dJ36_init_6 (fun H locs hS => ?_)
  obtain ⟨σ_1, eσ_1⟩ : ∃ z, z = va_up σ (a) (some (oO 12 [.ref (v), .null, .null])) := ⟨_, rfl⟩
  have hS : tl_S X s σ_1 H locs := by rw [eσ_1]; exact hS
  have he_2 : σ_1 (a) = some (oO 12 [.ref (v), .null, .null]) := by rw [eσ_1]; exact up_s
  refine lv_aload_n C.1 C.2.1 dJ36_init_9 rfl (lv_at hl 0 rfl) ?_
  refine lv_aload_nN C.1 C.2.1 dJ36_init_10 rfl (lv_at hl 3 rfl) ?_
  refine gp_J36_13_12 C hS he_2 rfl rfl (Nat.le_of_ble_eq_true rfl) dJ36_init_11 (fun H locs hS => ?_)
  obtain ⟨σ_3, eσ_3⟩ : ∃ z, z = va_up σ_1 (a) (some (oO 12 [.ref (v), .null, .null])) := ⟨_, rfl⟩
  have hS : tl_S X s σ_3 H locs := by rw [eσ_3]; exact hS
  have he_4 : σ_3 (a) = some (oO 12 [.ref (v), .null, .null]) := by rw [eσ_3]; exact up_s
  refine lv_aload_n C.1 C.2.1 dJ36_init_14 rfl (lv_at hl 0 rfl) ?_
  refine lv_aload_nN C.1 C.2.1 dJ36_init_15 rfl (lv_at hl 1 rfl) ?_
  refine gp_J36_17_12 C hS he_4 rfl rfl (Nat.le_of_ble_eq_true rfl) dJ36_init_16 (fun H locs hS => ?_)
  obtain ⟨σ_5, eσ_5⟩ : ∃ z, z = va_up σ_3 (a) (some (oO 12 [.ref (v), .null, .null])) := ⟨_, rfl⟩
  have hS : tl_S X s σ_5 H locs := by rw [eσ_5]; exact hS
  have he_6 : σ_5 (a) = some (oO 12 [.ref (v), .null, .null]) := by rw [eσ_5]; exact up_s
  exact r_v C hr hlk hS (by rw [eσ_5, eσ_3, eσ_1, up_uu, up_uu]; rfl) dJ36_init_19

set_option maxHeartbeats 4000000 in
theorem m_No_init_r (l : Launch) (X : tl_X) (σ : tl_H) (a v : Nat) (pw : Nat) (ha : σ a = some (oO 12 [.null, .null, .null])) : tl_Met l X yJ36_init cJ36_init 4 ((Option.none : Option FieldType)) 1 (0) (0) [.ref (a), .ref (pw), .ref (v), .null] σ (tl_Qv X (fun σ' => σ' = va_up σ a (some (cN (some v) none (some pw))))) := by
  refine tl_start (by decide) (Nat.le_of_ble_eq_true rfl) (fun p e s m below meth c ls C hr hml hlk hnm hS hl => ?_)
  have hl : lv_has ls 4 [(0, .ref (a)), (1, .ref (pw)), (2, .ref (v)), (3, .null)] := hl
  refine lv_aload_n C.1 C.2.1 dJ36_init_0 rfl (lv_at hl 0 rfl) ?_
  refine h_obj C hml hl.1 q1284 dJ36_init_1 (by show 1 ≤ 1; decide) (by show 40 ≤ 40 * 1; decide) (Nat.le_of_ble_eq_true rfl) ?_
  refine lv_aload_n C.1 C.2.1 dJ36_init_4 rfl (lv_at hl 0 rfl) ?_
  refine lv_aload_n C.1 C.2.1 dJ36_init_5 rfl (lv_at hl 2 rfl) ?_
  refine gp_J36_7_12 C hS ha rfl rfl (Nat.le_of_ble_eq_true rfl) dJ36_init_6 (fun H locs hS => ?_)
  obtain ⟨σ_1, eσ_1⟩ : ∃ z, z = va_up σ (a) (some (oO 12 [.ref (v), .null, .null])) := ⟨_, rfl⟩
  have hS : tl_S X s σ_1 H locs := by rw [eσ_1]; exact hS
  have he_2 : σ_1 (a) = some (oO 12 [.ref (v), .null, .null]) := by rw [eσ_1]; exact up_s
  refine lv_aload_n C.1 C.2.1 dJ36_init_9 rfl (lv_at hl 0 rfl) ?_
  refine lv_aload_nN C.1 C.2.1 dJ36_init_10 rfl (lv_at hl 3 rfl) ?_
  refine gp_J36_13_12 C hS he_2 rfl rfl (Nat.le_of_ble_eq_true rfl) dJ36_init_11 (fun H locs hS => ?_)
  obtain ⟨σ_3, eσ_3⟩ : ∃ z, z = va_up σ_1 (a) (some (oO 12 [.ref (v), .null, .null])) := ⟨_, rfl⟩
  have hS : tl_S X s σ_3 H locs := by rw [eσ_3]; exact hS
  have he_4 : σ_3 (a) = some (oO 12 [.ref (v), .null, .null]) := by rw [eσ_3]; exact up_s
  refine lv_aload_n C.1 C.2.1 dJ36_init_14 rfl (lv_at hl 0 rfl) ?_
  refine lv_aload_n C.1 C.2.1 dJ36_init_15 rfl (lv_at hl 1 rfl) ?_
  refine gp_J36_17_12 C hS he_4 rfl rfl (Nat.le_of_ble_eq_true rfl) dJ36_init_16 (fun H locs hS => ?_)
  obtain ⟨σ_5, eσ_5⟩ : ∃ z, z = va_up σ_3 (a) (some (oO 12 [.ref (v), .null, .ref (pw)])) := ⟨_, rfl⟩
  have hS : tl_S X s σ_5 H locs := by rw [eσ_5]; exact hS
  have he_6 : σ_5 (a) = some (oO 12 [.ref (v), .null, .ref (pw)]) := by rw [eσ_5]; exact up_s
  exact r_v C hr hlk hS (by rw [eσ_5, eσ_3, eσ_1, up_uu, up_uu]; rfl) dJ36_init_19

set_option maxHeartbeats 4000000 in
theorem m_AS_init (l : Launch) (X : tl_X) (σ : tl_H) (a : Nat) (hw : X.2.1 ≤ a) (ha : σ a = some (oO 11 [.int (iI 0), .int (iI 0), .null, .null])) : tl_Met l X yJ3_init cJ3_init 1 ((Option.none : Option FieldType)) 3 (0) (0) [.ref (a)] σ (tl_Qv X (fun σ' => σ' = va_up σ a (some (oO 11 [.int (iI 0), .int (iI 0), .null, .null])))) := by
  refine tl_start (by decide) (Nat.le_of_ble_eq_true rfl) (fun p e s m below meth c ls C hr hml hlk hnm hS hl => ?_)
  have hl : lv_has ls 1 [(0, .ref (a))] := hl
  refine lv_aload_n C.1 C.2.1 dJ3_init_0 rfl (lv_at hl 0 rfl) ?_
  refine tl_cv (t_I (n := 0) C hml hS (m_Ab_init_K l X σ a 0 0 hw ha) q143 q110 q49 q111 rfl (by decide +kernel) rfl hl.1 rfl (Nat.le_of_ble_eq_true rfl) dJ3_init_1 ⟨Nat.le_of_ble_eq_true rfl, Nat.le_of_ble_eq_true rfl⟩ ⟨Nat.le_refl _, Nat.le_refl _⟩) hS (fun σ_3 H locs hP_2 hS => ?_)
  have he_4 : σ_3 (a) = some (oO 11 [.int (iI (0)), .int (iI (0)), .null, .null]) := by rw [hP_2]; exact up_s
  exact r_v C hr hlk hS (by rw [hP_2]) dJ3_init_4

theorem gp_J4_7_11 {p : Program} {l : Launch} {e : Env} {R : Room} {s : State} {m : MethodId} {args : Array Value} {below : List Frame} {meth : Method} {c : Code} {H : Heap} {locs : List Loc} {cells slots : Nat} {Q : State → Prop} {cc : ByteArray} {pc : Nat} {ls : Array Slot} {rest : List Value} {X : tl_X} {σ : tl_H} {a : Nat} {fs : List Value} {v : Value} (C : tl_C X p s m args c cc RJ4) (hS : tl_S X s σ H locs) (he : σ a = some (oO 11 fs)) (hn : narrow (tyJ4 1) v = v) (hfit : fits (tyJ4 1) v = true) (hl : 1 < fs.length) (hdg : decode cc pc = .ok (.putfield 7, 3)) (kk : ∀ (H1 : Heap) (locs1 : List Loc), tl_S X s (va_up σ a (some (oO 11 (fs.set 1 v)))) H1 locs1 → W p l e R s m args below meth c H1 locs1 cells slots Q (F0 m (pc + 3) ls rest)) : W p l e R s m args below meth c H locs cells slots Q (F0 m pc ls (v :: .ref a :: rest)) :=
  h_put (ref := "java/util/LinkedList") C hS in_J4 tyJ4 tyJ4_ok nmJ4 rfl 1 (by decide) q144 (fun _ h => h) rfl (by decide) he hn hfit hl hdg kk
set_option maxHeartbeats 4000000 in
theorem m_KL_init (l : Launch) (X : tl_X) (σ : tl_H) (a : Nat) (hw : X.2.1 ≤ a) (ha : σ a = some (oO 11 [.int (iI 0), .int (iI 0), .null, .null])) : tl_Met l X yJ4_init cJ4_init 1 ((Option.none : Option FieldType)) 4 (0) (0) [.ref (a)] σ (tl_Qv X (fun σ' => σ' = va_up σ a (some (cK 0 0 none none)))) := by
  refine tl_start (by decide) (Nat.le_of_ble_eq_true rfl) (fun p e s m below meth c ls C hr hml hlk hnm hS hl => ?_)
  have hl : lv_has ls 1 [(0, .ref (a))] := hl
  refine lv_aload_n C.1 C.2.1 dJ4_init_0 rfl (lv_at hl 0 rfl) ?_
  refine tl_cv (t_I (n := 0) C hml hS (m_AS_init l X σ a hw ha) q140 q141 q51 q142 rfl (by decide +kernel) rfl hl.1 rfl (Nat.le_of_ble_eq_true rfl) dJ4_init_1 ⟨Nat.le_of_ble_eq_true rfl, Nat.le_of_ble_eq_true rfl⟩ ⟨Nat.le_refl _, Nat.le_refl _⟩) hS (fun σ_3 H locs hP_2 hS => ?_)
  have he_4 : σ_3 (a) = some (oO 11 [.int (iI (0)), .int (iI (0)), .null, .null]) := by rw [hP_2]; exact up_s
  refine lv_aload_n C.1 C.2.1 dJ4_init_4 rfl (lv_at hl 0 rfl) ?_
  refine ti_const C.1 C.2.1 dJ4_init_5 ?_
  refine gp_J4_7_11 C hS he_4 rfl rfl (Nat.le_of_ble_eq_true rfl) dJ4_init_6 (fun H locs hS => ?_)
  obtain ⟨σ_5, eσ_5⟩ : ∃ z, z = va_up σ_3 (a) (some (oO 11 [.int (iI (0)), .int (iI (0)), .null, .null])) := ⟨_, rfl⟩
  have hS : tl_S X s σ_5 H locs := by rw [eσ_5]; exact hS
  have he_6 : σ_5 (a) = some (oO 11 [.int (iI (0)), .int (iI (0)), .null, .null]) := by rw [eσ_5]; exact up_s
  exact r_v C hr hlk hS (by rw [eσ_5, hP_2, up_uu]; rfl) dJ4_init_9

theorem gf_J4_7_11 {p : Program} {l : Launch} {e : Env} {R : Room} {s : State} {m : MethodId} {args : Array Value} {below : List Frame} {meth : Method} {c : Code} {H : Heap} {locs : List Loc} {cells slots : Nat} {Q : State → Prop} {cc : ByteArray} {pc : Nat} {ls : Array Slot} {rest : List Value} {X : tl_X} {σ : tl_H} {a : Nat} {fs : List Value} {v : Value} (C : tl_C X p s m args c cc RJ4) (hS : tl_S X s σ H locs) (he : σ a = some (oO 11 fs)) (hv : fs[1]? = some v) (hdg : decode cc pc = .ok (.getfield 7, 3)) (kk : W p l e R s m args below meth c H locs cells slots Q (F0 m (pc + 3) ls (v :: rest))) : W p l e R s m args below meth c H locs cells slots Q (F0 m pc ls (.ref a :: rest)) :=
  h_get (ref := "java/util/LinkedList") C hS in_J4 rfl 1 (by decide) q144 (fun _ h => h) he hv hdg kk
set_option maxHeartbeats 4000000 in
theorem m_KL_size (l : Launch) (X : tl_X) (σ : tl_H) (K : Nat) (md n : Int) (fi la : Option Nat) (hK : σ K = some (cK md n fi la))  : tl_Met l X yJ4_size cJ4_size 1 ((Option.some FieldType.int)) 1 (0) (0) [.ref (K)] σ (tl_Qi X (fun r σ' => r = iI (n) ∧ σ = σ')) := by
  refine tl_start (by decide) (Nat.le_of_ble_eq_true rfl) (fun p e s m below meth c ls C hr hml hlk hnm hS hl => ?_)
  have hl : lv_has ls 1 [(0, .ref (K))] := hl
  refine lv_aload_n C.1 C.2.1 dJ4_size_0 rfl (lv_at hl 0 rfl) ?_
  refine gf_J4_7_11 C hS hK rfl dJ4_size_1 ?_
  exact r_i C hr hlk hS ⟨rfl, rfl⟩ dJ4_size_4

set_option maxHeartbeats 4000000 in
theorem m_KL_isEmpty (l : Launch) (X : tl_X) (σ : tl_H) (K : Nat) (md n : Int) (fi la : Option Nat) (hK : σ K = some (cK md n fi la)) (hn : 0 ≤ n ∧ n ≤ 1000000) : tl_Met l X yJ0_isEmpty cJ0_isEmpty 1 ((Option.some FieldType.boolean)) 2 (0) (0) [.ref (K)] σ (tl_Qi X (fun r σ' => r = iI (tb (decide (n = 0))) ∧ σ = σ')) := by
  refine tl_start (by decide) (Nat.le_of_ble_eq_true rfl) (fun p e s m below meth c ls C hr hml hlk hnm hS hl => ?_)
  have hl : lv_has ls 1 [(0, .ref (K))] := hl
  refine lv_aload_n C.1 C.2.1 dJ0_isEmpty_0 rfl (lv_at hl 0 rfl) ?_
  refine tl_ci (t_A (n := 0) (ci := 11) (K := RJ4) C hml hS (m_KL_size l X σ K md n fi la hK) q1500 q1502 q1504 q1505 q52 q1506 C.2.2.2.2.2.2.2.2.2.2.2.2.2.2.2 (by decide +kernel) hK rfl rfl hl.1 rfl (Nat.le_of_ble_eq_true rfl) dJ0_isEmpty_1 ⟨Nat.le_of_ble_eq_true rfl, Nat.le_of_ble_eq_true rfl⟩ ⟨Nat.le_refl _, Nat.le_refl _⟩) hS (fun r_1 σ_3 H locs hP_2 hS => ?_)
  obtain ⟨rfl, rfl⟩ := hP_2
  refine ti_if_ne (tgt := 11) C.1 C.2.1 dJ0_isEmpty_4 (by decide) ⟨by omega, by omega⟩ (fun hc_4 => ?_) (fun hc_4 => ?_)
  · skip
    refine ti_const C.1 C.2.1 dJ0_isEmpty_11 ?_
    exact r_z (z := 0) C hr hlk hS (by first | exact tb01 _ | omega | decide) ⟨congrArg iI (tb_f (by omega)).symm, rfl⟩ dJ0_isEmpty_12
  · skip
    refine ti_const C.1 C.2.1 dJ0_isEmpty_7 ?_
    refine lv_goto (tgt := 12) C.1 C.2.1 dJ0_isEmpty_8 (by decide) ?_
    exact r_z (z := 1) C hr hlk hS (by first | exact tb01 _ | omega | decide) ⟨congrArg iI (tb_t (by omega)).symm, rfl⟩ dJ0_isEmpty_12

theorem kP_pos {n : Int} {nd : Int → Nat} (h : 0 < n) : kP n nd = some (nd (n - 1)) := by unfold kP; rw [if_neg (by omega)]
theorem kP_0 {nd : Int → Nat} : kP 0 nd = none := rfl
/-- an item joins -/
theorem KL.add {σ σ' : tl_H} {K q v : Nat} {md md' n : Int} {fi fi' : Option Nat} {nd itm : Int → Nat} (h : KL σ K md n fi nd itm) (hq : σ q = none) (h1 : σ' K = some (cK md' (n + 1) fi' (some q))) (h2 : σ' q = some (cN (some v) none (kP n nd))) (h3 : ∀ i : Int, 0 ≤ i → i < n → ∀ nx, σ (nd i) = some (cN (some (itm i)) nx (kP i nd)) → ∃ nx', σ' (nd i) = some (cN (some (itm i)) nx' (kP i nd))) : KL σ' K md' (n + 1) fi' (fun i => if i = n then q else nd i) (fun i => if i = n then v else itm i) := by
  obtain ⟨g1, g2, g3, g4⟩ := h
  have hne : ∀ i : Int, 0 ≤ i → i < n → nd i ≠ q := fun i h0 hi z => by
    obtain ⟨nx, hx⟩ := g3 i h0 hi
    rw [z, hq] at hx
    cases hx
  have hk : ∀ i : Int, i ≤ n → kP i (fun i => if i = n then q else nd i) = kP i nd := fun i hi => by
    unfold kP
    by_cases z : i = 0
    · rw [if_pos z, if_pos z]
    · rw [if_neg z, if_neg z]
      exact congrArg some (if_neg (by omega))
  refine ⟨?_, by omega, fun i h0 hi => ?_, fun i j h0 hi h0' hj e => ?_⟩
  · rw [kP_pos (by omega), if_pos (by omega)]
    exact h1
  · rw [hk i (by omega)]
    show ∃ nx, σ' (if i = n then q else nd i) = some (cN (some (if i = n then v else itm i)) nx (kP i nd))
    by_cases z : i = n
    · subst z
      rw [if_pos rfl, if_pos rfl]
      exact ⟨none, h2⟩
    · rw [if_neg z, if_neg z]
      obtain ⟨nx, hx⟩ := g3 i h0 (by omega)
      exact h3 i h0 (by omega) nx hx
  · by_cases z : i = n
    · by_cases z' : j = n
      · omega
      · simp only [if_pos z, if_neg z'] at e
        exact absurd e.symm (hne j h0' (by omega))
    · by_cases z' : j = n
      · simp only [if_neg z, if_pos z'] at e
        exact absurd e (hne i h0 (by omega))
      · simp only [if_neg z, if_neg z'] at e
        exact g4 i j h0 (by omega) h0' (by omega) e
theorem gf_J4_27_11 {p : Program} {l : Launch} {e : Env} {R : Room} {s : State} {m : MethodId} {args : Array Value} {below : List Frame} {meth : Method} {c : Code} {H : Heap} {locs : List Loc} {cells slots : Nat} {Q : State → Prop} {cc : ByteArray} {pc : Nat} {ls : Array Slot} {rest : List Value} {X : tl_X} {σ : tl_H} {a : Nat} {fs : List Value} {v : Value} (C : tl_C X p s m args c cc RJ4) (hS : tl_S X s σ H locs) (he : σ a = some (oO 11 fs)) (hv : fs[3]? = some v) (hdg : decode cc pc = .ok (.getfield 27, 3)) (kk : W p l e R s m args below meth c H locs cells slots Q (F0 m (pc + 3) ls (v :: rest))) : W p l e R s m args below meth c H locs cells slots Q (F0 m pc ls (.ref a :: rest)) :=
  h_get (ref := "java/util/LinkedList") C hS in_J4 rfl 3 (by decide) q146 (fun _ h => h) he hv hdg kk
theorem df_J36 : ∀ j, j < 3 → defaultValue (tyJ36 j) = vp_V [.null, .null, .null] j := by
  intro j hj
  rcases (show j = 0 ∨ j = 1 ∨ j = 2 by omega) with rfl | rfl | rfl <;> rfl
theorem gp_J4_27_11 {p : Program} {l : Launch} {e : Env} {R : Room} {s : State} {m : MethodId} {args : Array Value} {below : List Frame} {meth : Method} {c : Code} {H : Heap} {locs : List Loc} {cells slots : Nat} {Q : State → Prop} {cc : ByteArray} {pc : Nat} {ls : Array Slot} {rest : List Value} {X : tl_X} {σ : tl_H} {a : Nat} {fs : List Value} {v : Value} (C : tl_C X p s m args c cc RJ4) (hS : tl_S X s σ H locs) (he : σ a = some (oO 11 fs)) (hn : narrow (tyJ4 3) v = v) (hfit : fits (tyJ4 3) v = true) (hl : 3 < fs.length) (hdg : decode cc pc = .ok (.putfield 27, 3)) (kk : ∀ (H1 : Heap) (locs1 : List Loc), tl_S X s (va_up σ a (some (oO 11 (fs.set 3 v)))) H1 locs1 → W p l e R s m args below meth c H1 locs1 cells slots Q (F0 m (pc + 3) ls rest)) : W p l e R s m args below meth c H locs cells slots Q (F0 m pc ls (v :: .ref a :: rest)) :=
  h_put (ref := "java/util/LinkedList") C hS in_J4 tyJ4 tyJ4_ok nmJ4 rfl 3 (by decide) q146 (fun _ h => h) rfl (by decide) he hn hfit hl hdg kk
theorem gp_J4_18_11 {p : Program} {l : Launch} {e : Env} {R : Room} {s : State} {m : MethodId} {args : Array Value} {below : List Frame} {meth : Method} {c : Code} {H : Heap} {locs : List Loc} {cells slots : Nat} {Q : State → Prop} {cc : ByteArray} {pc : Nat} {ls : Array Slot} {rest : List Value} {X : tl_X} {σ : tl_H} {a : Nat} {fs : List Value} {v : Value} (C : tl_C X p s m args c cc RJ4) (hS : tl_S X s σ H locs) (he : σ a = some (oO 11 fs)) (hn : narrow (tyJ4 2) v = v) (hfit : fits (tyJ4 2) v = true) (hl : 2 < fs.length) (hdg : decode cc pc = .ok (.putfield 18, 3)) (kk : ∀ (H1 : Heap) (locs1 : List Loc), tl_S X s (va_up σ a (some (oO 11 (fs.set 2 v)))) H1 locs1 → W p l e R s m args below meth c H1 locs1 cells slots Q (F0 m (pc + 3) ls rest)) : W p l e R s m args below meth c H locs cells slots Q (F0 m pc ls (v :: .ref a :: rest)) :=
  h_put (ref := "java/util/LinkedList") C hS in_J4 tyJ4 tyJ4_ok nmJ4 rfl 2 (by decide) q145 (fun _ h => h) rfl (by decide) he hn hfit hl hdg kk
theorem gf_J4_33_11 {p : Program} {l : Launch} {e : Env} {R : Room} {s : State} {m : MethodId} {args : Array Value} {below : List Frame} {meth : Method} {c : Code} {H : Heap} {locs : List Loc} {cells slots : Nat} {Q : State → Prop} {cc : ByteArray} {pc : Nat} {ls : Array Slot} {rest : List Value} {X : tl_X} {σ : tl_H} {a : Nat} {fs : List Value} {v : Value} (C : tl_C X p s m args c cc RJ4) (hS : tl_S X s σ H locs) (he : σ a = some (oO 11 fs)) (hv : fs[0]? = some v) (hdg : decode cc pc = .ok (.getfield 33, 3)) (kk : W p l e R s m args below meth c H locs cells slots Q (F0 m (pc + 3) ls (v :: rest))) : W p l e R s m args below meth c H locs cells slots Q (F0 m pc ls (.ref a :: rest)) :=
  h_get (ref := "java/util/LinkedList") C hS in_J4 rfl 0 (by decide) q125 (fun x h => u_same (C.2.2.2.1 _ q126) x h) he hv hdg kk
theorem gp_J4_33_11 {p : Program} {l : Launch} {e : Env} {R : Room} {s : State} {m : MethodId} {args : Array Value} {below : List Frame} {meth : Method} {c : Code} {H : Heap} {locs : List Loc} {cells slots : Nat} {Q : State → Prop} {cc : ByteArray} {pc : Nat} {ls : Array Slot} {rest : List Value} {X : tl_X} {σ : tl_H} {a : Nat} {fs : List Value} {v : Value} (C : tl_C X p s m args c cc RJ4) (hS : tl_S X s σ H locs) (he : σ a = some (oO 11 fs)) (hn : narrow (tyJ4 0) v = v) (hfit : fits (tyJ4 0) v = true) (hl : 0 < fs.length) (hdg : decode cc pc = .ok (.putfield 33, 3)) (kk : ∀ (H1 : Heap) (locs1 : List Loc), tl_S X s (va_up σ a (some (oO 11 (fs.set 0 v)))) H1 locs1 → W p l e R s m args below meth c H1 locs1 cells slots Q (F0 m (pc + 3) ls rest)) : W p l e R s m args below meth c H locs cells slots Q (F0 m pc ls (v :: .ref a :: rest)) :=
  h_put (ref := "java/util/LinkedList") C hS in_J4 tyJ4 tyJ4_ok nmJ4 rfl 0 (by decide) q125 (fun x h => u_same (C.2.2.2.1 _ q126) x h) rfl (by decide) he hn hfit hl hdg kk
set_option maxHeartbeats 4000000 in
theorem m_KL_link0 (l : Launch) (X : tl_X) (σ : tl_H) (K : Nat) (md n : Int) (fi : Option Nat) (nd itm : Int → Nat) (hKL : KL σ K md n fi nd itm) (v : Nat) (hn0 : n = 0) : tl_Met l X yJ4_linkLast cJ4_linkLast 4 ((Option.none : Option FieldType)) 2 (1) (3) [.ref (K), .ref (v)] σ (tl_Qv X (fun σ' => ∃ (q : Nat) (fi' : Option Nat), σ q = none ∧ KL σ' K (md + 1) (n + 1) fi' (fun i => if i = n then q else nd i) (fun i => if i = n then v else itm i) ∧ KF X σ σ')) := by
  have hK : σ K = some (oO 11 [.int (iI md), .int (iI n), va_rf fi, .null]) := by rw [hKL.1, hn0, kP_0]; rfl
  refine tl_start (by decide) (Nat.le_of_ble_eq_true rfl) (fun p e s m below meth c ls C hr hml hlk hnm hS hl => ?_)
  have hl : lv_has ls 4 [(0, .ref (K)), (1, .ref (v))] := hl
  refine lv_aload_n C.1 C.2.1 dJ4_linkLast_0 rfl (lv_at hl 0 rfl) ?_
  refine gf_J4_27_11 C hS hK rfl dJ4_linkLast_1 ?_
  refine lv_astore_nN (lv' := [(2, .null), (0, .ref (K)), (1, .ref (v))]) C.1 C.2.1 dJ4_linkLast_4 rfl hl (by decide) rfl (fun ls hl => ?_)
  refine h_new (ci := 12) (fs := [.null, .null, .null]) C hS in_J36 tyJ36 tyJ36_ok q1279 q1280 q95 rfl df_J36 (by show 0 + 1 ≤ 1; omega) (by show 0 + 3 ≤ 3; omega) dJ4_linkLast_5 (fun q_1 H hS hq_1 hBq_1 => ?_)
  obtain ⟨σ_2, eσ_2⟩ : ∃ z, z = va_up σ q_1 (some (oO 12 [.null, .null, .null])) := ⟨_, rfl⟩
  rw [← eσ_2] at hS
  have he_3 := up_kq eσ_2 hq_1 hK
  have he_4 : σ_2 q_1 = some (oO 12 [.null, .null, .null]) := by rw [eσ_2]; exact up_s
  refine lv_dup C.1 C.2.1 dJ4_linkLast_8 rfl ?_
  refine lv_aload_nN C.1 C.2.1 dJ4_linkLast_9 rfl (lv_at hl 0 rfl) ?_
  refine lv_aload_n C.1 C.2.1 dJ4_linkLast_10 rfl (lv_at hl 2 rfl) ?_
  refine lv_null C.1 C.2.1 dJ4_linkLast_11 ?_
  refine tl_cv (t_I (n := 3) C hml hS (m_No_init_n l X σ_2 q_1 v he_4) q1281 q1282 q95 q1283 rfl (by decide +kernel) rfl hl.1 rfl (Nat.le_of_ble_eq_true rfl) dJ4_linkLast_12 ⟨Nat.le_of_ble_eq_true rfl, Nat.le_of_ble_eq_true rfl⟩ ⟨by show 0 + 1 + (0) ≤ 1; omega, by show 0 + 3 + (0) ≤ 3; omega⟩) hS (fun σ_7 H locs hP_6 hS => ?_)
  have he_8 := up_kp hP_6 (tl_ne he_3 he_4 (by decide)) he_3
  have he_9 : σ_7 (q_1) = some (oO 12 [.ref (v), .null, .null]) := by rw [hP_6]; exact up_s
  refine lv_astore_n (lv' := [(3, .ref (q_1)), (2, .null), (0, .ref (K)), (1, .ref (v))]) C.1 C.2.1 dJ4_linkLast_15 rfl hl (by decide) rfl (fun ls hl => ?_)
  refine lv_aload_n C.1 C.2.1 dJ4_linkLast_16 rfl (lv_at hl 2 rfl) ?_
  refine lv_aload_n C.1 C.2.1 dJ4_linkLast_17 rfl (lv_at hl 0 rfl) ?_
  refine gp_J4_27_11 C hS he_8 rfl rfl (Nat.le_of_ble_eq_true rfl) dJ4_linkLast_18 (fun H locs hS => ?_)
  obtain ⟨σ_10, eσ_10⟩ : ∃ z, z = va_up σ_7 (K) (some (oO 11 [.int (iI (md)), .int (iI (n)), va_rf (fi), .ref (q_1)])) := ⟨_, rfl⟩
  have hS : tl_S X s σ_10 H locs := by rw [eσ_10]; exact hS
  have he_11 : σ_10 (K) = some (oO 11 [.int (iI (md)), .int (iI (n)), va_rf (fi), .ref (q_1)]) := by rw [eσ_10]; exact up_s
  have he_12 := up_kp eσ_10 (tl_ne he_9 he_8 (by decide)) he_9
  refine lv_aload_nN C.1 C.2.1 dJ4_linkLast_21 rfl (lv_at hl 1 rfl) ?_
  refine lv_ifnonnullN C.1 C.2.1 dJ4_linkLast_22 ?_
  refine lv_aload_n C.1 C.2.1 dJ4_linkLast_25 rfl (lv_at hl 2 rfl) ?_
  refine lv_aload_n C.1 C.2.1 dJ4_linkLast_26 rfl (lv_at hl 0 rfl) ?_
  refine gp_J4_18_11 C hS he_11 rfl rfl (Nat.le_of_ble_eq_true rfl) dJ4_linkLast_27 (fun H locs hS => ?_)
  obtain ⟨σ_13, eσ_13⟩ : ∃ z, z = va_up σ_10 (K) (some (oO 11 [.int (iI (md)), .int (iI (n)), .ref (q_1), .ref (q_1)])) := ⟨_, rfl⟩
  have hS : tl_S X s σ_13 H locs := by rw [eσ_13]; exact hS
  have he_14 : σ_13 (K) = some (oO 11 [.int (iI (md)), .int (iI (n)), .ref (q_1), .ref (q_1)]) := by rw [eσ_13]; exact up_s
  have he_15 := up_kp eσ_13 (tl_ne he_12 he_11 (by decide)) he_12
  refine lv_goto (tgt := 38) C.1 C.2.1 dJ4_linkLast_30 (by decide) ?_
  refine lv_aload_n C.1 C.2.1 dJ4_linkLast_38 rfl (lv_at hl 2 rfl) ?_
  refine lv_dup C.1 C.2.1 dJ4_linkLast_39 rfl ?_
  refine gf_J4_7_11 C hS he_14 rfl dJ4_linkLast_40 ?_
  refine ti_const C.1 C.2.1 dJ4_linkLast_43 ?_
  refine ti_iadd C.1 C.2.1 dJ4_linkLast_44 ?_
  refine gp_J4_7_11 C hS he_14 rfl rfl (Nat.le_of_ble_eq_true rfl) dJ4_linkLast_45 (fun H locs hS => ?_)
  obtain ⟨σ_16, eσ_16⟩ : ∃ z, z = va_up σ_13 (K) (some (oO 11 [.int (iI (md)), .int (iI ((n + 1))), .ref (q_1), .ref (q_1)])) := ⟨_, rfl⟩
  have hS : tl_S X s σ_16 H locs := by rw [eσ_16]; exact hS
  have he_17 : σ_16 (K) = some (oO 11 [.int (iI (md)), .int (iI ((n + 1))), .ref (q_1), .ref (q_1)]) := by rw [eσ_16]; exact up_s
  have he_18 := up_kp eσ_16 (tl_ne he_15 he_14 (by decide)) he_15
  refine lv_aload_n C.1 C.2.1 dJ4_linkLast_48 rfl (lv_at hl 2 rfl) ?_
  refine lv_dup C.1 C.2.1 dJ4_linkLast_49 rfl ?_
  refine gf_J4_33_11 C hS he_17 rfl dJ4_linkLast_50 ?_
  refine ti_const C.1 C.2.1 dJ4_linkLast_53 ?_
  refine ti_iadd C.1 C.2.1 dJ4_linkLast_54 ?_
  refine gp_J4_33_11 C hS he_17 rfl rfl (Nat.le_of_ble_eq_true rfl) dJ4_linkLast_55 (fun H locs hS => ?_)
  obtain ⟨σ_19, eσ_19⟩ : ∃ z, z = va_up σ_16 (K) (some (oO 11 [.int (iI ((md + 1))), .int (iI ((n + 1))), .ref (q_1), .ref (q_1)])) := ⟨_, rfl⟩
  have hS : tl_S X s σ_19 H locs := by rw [eσ_19]; exact hS
  have he_20 : σ_19 (K) = some (oO 11 [.int (iI ((md + 1))), .int (iI ((n + 1))), .ref (q_1), .ref (q_1)]) := by rw [eσ_19]; exact up_s
  have he_21 := up_kp eσ_19 (tl_ne he_18 he_17 (by decide)) he_18
  refine W.widen (k := 1) (n := 3) (by omega) (by omega) ?_
  exact r_v C hr hlk hS ⟨q_1, (some q_1), hq_1, hKL.add hq_1 he_20 (by rw [hn0, kP_0]; exact he_21) (fun i h0 hi => by exfalso; omega), hS.fix, (fun b e hb hn => by have hbK : b ≠ K := ncl_ne hb hn hK (Or.inl rfl); have hbq : b ≠ q_1 := (fun z => by rw [z, hq_1] at hb; cases hb); rw [eσ_19, up_n hbK, eσ_16, up_n hbK, eσ_13, up_n hbK, eσ_10, up_n hbK, hP_6, up_n hbq, eσ_2, up_n hbq]; exact hb)⟩ dJ4_linkLast_58

theorem gp_J4_36_12 {p : Program} {l : Launch} {e : Env} {R : Room} {s : State} {m : MethodId} {args : Array Value} {below : List Frame} {meth : Method} {c : Code} {H : Heap} {locs : List Loc} {cells slots : Nat} {Q : State → Prop} {cc : ByteArray} {pc : Nat} {ls : Array Slot} {rest : List Value} {X : tl_X} {σ : tl_H} {a : Nat} {fs : List Value} {v : Value} (C : tl_C X p s m args c cc RJ4) (hS : tl_S X s σ H locs) (he : σ a = some (oO 12 fs)) (hn : narrow (tyJ36 1) v = v) (hfit : fits (tyJ36 1) v = true) (hl : 1 < fs.length) (hdg : decode cc pc = .ok (.putfield 36, 3)) (kk : ∀ (H1 : Heap) (locs1 : List Loc), tl_S X s (va_up σ a (some (oO 12 (fs.set 1 v)))) H1 locs1 → W p l e R s m args below meth c H1 locs1 cells slots Q (F0 m (pc + 3) ls rest)) : W p l e R s m args below meth c H locs cells slots Q (F0 m pc ls (v :: .ref a :: rest)) :=
  h_put (ref := "java/util/LinkedList$Node") C hS in_J36 tyJ36 tyJ36_ok nmJ36 rfl 1 (by decide) q1288 (fun _ h => h) rfl (by decide) he hn hfit hl hdg kk
set_option maxHeartbeats 4000000 in
theorem m_KL_link1 (l : Launch) (X : tl_X) (σ : tl_H) (K : Nat) (md n : Int) (fi : Option Nat) (nd itm : Int → Nat) (hKL : KL σ K md n fi nd itm) (v : Nat) (hn0 : 0 < n) : tl_Met l X yJ4_linkLast cJ4_linkLast 4 ((Option.none : Option FieldType)) 2 (1) (3) [.ref (K), .ref (v)] σ (tl_Qv X (fun σ' => ∃ (q : Nat) (fi' : Option Nat), σ q = none ∧ KL σ' K (md + 1) (n + 1) fi' (fun i => if i = n then q else nd i) (fun i => if i = n then v else itm i) ∧ KF X σ σ')) := by
  have hK : σ K = some (oO 11 [.int (iI md), .int (iI n), va_rf fi, .ref (nd (n - 1))]) := by rw [hKL.1, kP_pos hn0]; rfl
  obtain ⟨nx, hN⟩ := hKL.2.2.1 (n - 1) (by omega) (by omega)
  have hinj := hKL.2.2.2
  refine tl_start (by decide) (Nat.le_of_ble_eq_true rfl) (fun p e s m below meth c ls C hr hml hlk hnm hS hl => ?_)
  have hl : lv_has ls 4 [(0, .ref (K)), (1, .ref (v))] := hl
  refine lv_aload_n C.1 C.2.1 dJ4_linkLast_0 rfl (lv_at hl 0 rfl) ?_
  refine gf_J4_27_11 C hS hK rfl dJ4_linkLast_1 ?_
  refine lv_astore_n (lv' := [(2, .ref (nd (n - 1))), (0, .ref (K)), (1, .ref (v))]) C.1 C.2.1 dJ4_linkLast_4 rfl hl (by decide) rfl (fun ls hl => ?_)
  refine h_new (ci := 12) (fs := [.null, .null, .null]) C hS in_J36 tyJ36 tyJ36_ok q1279 q1280 q95 rfl df_J36 (by show 0 + 1 ≤ 1; omega) (by show 0 + 3 ≤ 3; omega) dJ4_linkLast_5 (fun q_1 H hS hq_1 hBq_1 => ?_)
  obtain ⟨σ_2, eσ_2⟩ : ∃ z, z = va_up σ q_1 (some (oO 12 [.null, .null, .null])) := ⟨_, rfl⟩
  rw [← eσ_2] at hS
  have he_3 := up_kq eσ_2 hq_1 hK
  have he_4 := up_kq eσ_2 hq_1 hN
  have he_5 : σ_2 q_1 = some (oO 12 [.null, .null, .null]) := by rw [eσ_2]; exact up_s
  have hqN : (nd (n - 1)) ≠ q_1 := fun z => by rw [z, hq_1] at hN; cases hN
  refine lv_dup C.1 C.2.1 dJ4_linkLast_8 rfl ?_
  refine lv_aload_n C.1 C.2.1 dJ4_linkLast_9 rfl (lv_at hl 0 rfl) ?_
  refine lv_aload_n C.1 C.2.1 dJ4_linkLast_10 rfl (lv_at hl 2 rfl) ?_
  refine lv_null C.1 C.2.1 dJ4_linkLast_11 ?_
  refine tl_cv (t_I (n := 3) C hml hS (m_No_init_r l X σ_2 q_1 v (nd (n - 1)) he_5) q1281 q1282 q95 q1283 rfl (by decide +kernel) rfl hl.1 rfl (Nat.le_of_ble_eq_true rfl) dJ4_linkLast_12 ⟨Nat.le_of_ble_eq_true rfl, Nat.le_of_ble_eq_true rfl⟩ ⟨by show 0 + 1 + (0) ≤ 1; omega, by show 0 + 3 + (0) ≤ 3; omega⟩) hS (fun σ_8 H locs hP_7 hS => ?_)
  have he_9 := up_kp hP_7 (tl_ne he_3 he_5 (by decide)) he_3
  have he_10 := up_kp hP_7 hqN he_4
  have he_11 : σ_8 (q_1) = some (oO 12 [.ref (v), .null, .ref (nd (n - 1))]) := by rw [hP_7]; exact up_s
  refine lv_astore_n (lv' := [(3, .ref (q_1)), (2, .ref (nd (n - 1))), (0, .ref (K)), (1, .ref (v))]) C.1 C.2.1 dJ4_linkLast_15 rfl hl (by decide) rfl (fun ls hl => ?_)
  refine lv_aload_n C.1 C.2.1 dJ4_linkLast_16 rfl (lv_at hl 2 rfl) ?_
  refine lv_aload_n C.1 C.2.1 dJ4_linkLast_17 rfl (lv_at hl 0 rfl) ?_
  refine gp_J4_27_11 C hS he_9 rfl rfl (Nat.le_of_ble_eq_true rfl) dJ4_linkLast_18 (fun H locs hS => ?_)
  obtain ⟨σ_12, eσ_12⟩ : ∃ z, z = va_up σ_8 (K) (some (oO 11 [.int (iI (md)), .int (iI (n)), va_rf (fi), .ref (q_1)])) := ⟨_, rfl⟩
  have hS : tl_S X s σ_12 H locs := by rw [eσ_12]; exact hS
  have he_13 : σ_12 (K) = some (oO 11 [.int (iI (md)), .int (iI (n)), va_rf (fi), .ref (q_1)]) := by rw [eσ_12]; exact up_s
  have he_14 := up_kp eσ_12 (tl_ne he_10 he_9 (by decide)) he_10
  have he_15 := up_kp eσ_12 (tl_ne he_11 he_9 (by decide)) he_11
  refine lv_aload_n C.1 C.2.1 dJ4_linkLast_21 rfl (lv_at hl 1 rfl) ?_
  refine lv_ifnonnull (tgt := 33) C.1 C.2.1 dJ4_linkLast_22 (by decide) ?_
  refine lv_aload_n C.1 C.2.1 dJ4_linkLast_33 rfl (lv_at hl 1 rfl) ?_
  refine lv_aload_n C.1 C.2.1 dJ4_linkLast_34 rfl (lv_at hl 0 rfl) ?_
  refine gp_J4_36_12 C hS he_14 rfl rfl (Nat.le_of_ble_eq_true rfl) dJ4_linkLast_35 (fun H locs hS => ?_)
  obtain ⟨σ_16, eσ_16⟩ : ∃ z, z = va_up σ_12 (nd (n - 1)) (some (oO 12 [.ref (itm (n - 1)), .ref (q_1), va_rf (kP (n - 1) nd)])) := ⟨_, rfl⟩
  have hS : tl_S X s σ_16 H locs := by rw [eσ_16]; exact hS
  have he_17 := up_kp eσ_16 (tl_ne he_13 he_14 (by decide)) he_13
  have he_18 : σ_16 (nd (n - 1)) = some (oO 12 [.ref (itm (n - 1)), .ref (q_1), va_rf (kP (n - 1) nd)]) := by rw [eσ_16]; exact up_s
  have he_19 := up_kp eσ_16 (Ne.symm hqN) he_15
  refine lv_aload_n C.1 C.2.1 dJ4_linkLast_38 rfl (lv_at hl 2 rfl) ?_
  refine lv_dup C.1 C.2.1 dJ4_linkLast_39 rfl ?_
  refine gf_J4_7_11 C hS he_17 rfl dJ4_linkLast_40 ?_
  refine ti_const C.1 C.2.1 dJ4_linkLast_43 ?_
  refine ti_iadd C.1 C.2.1 dJ4_linkLast_44 ?_
  refine gp_J4_7_11 C hS he_17 rfl rfl (Nat.le_of_ble_eq_true rfl) dJ4_linkLast_45 (fun H locs hS => ?_)
  obtain ⟨σ_20, eσ_20⟩ : ∃ z, z = va_up σ_16 (K) (some (oO 11 [.int (iI (md)), .int (iI ((n + 1))), va_rf (fi), .ref (q_1)])) := ⟨_, rfl⟩
  have hS : tl_S X s σ_20 H locs := by rw [eσ_20]; exact hS
  have he_21 : σ_20 (K) = some (oO 11 [.int (iI (md)), .int (iI ((n + 1))), va_rf (fi), .ref (q_1)]) := by rw [eσ_20]; exact up_s
  have he_22 := up_kp eσ_20 (tl_ne he_18 he_17 (by decide)) he_18
  have he_23 := up_kp eσ_20 (tl_ne he_19 he_17 (by decide)) he_19
  refine lv_aload_n C.1 C.2.1 dJ4_linkLast_48 rfl (lv_at hl 2 rfl) ?_
  refine lv_dup C.1 C.2.1 dJ4_linkLast_49 rfl ?_
  refine gf_J4_33_11 C hS he_21 rfl dJ4_linkLast_50 ?_
  refine ti_const C.1 C.2.1 dJ4_linkLast_53 ?_
  refine ti_iadd C.1 C.2.1 dJ4_linkLast_54 ?_
  refine gp_J4_33_11 C hS he_21 rfl rfl (Nat.le_of_ble_eq_true rfl) dJ4_linkLast_55 (fun H locs hS => ?_)
  obtain ⟨σ_24, eσ_24⟩ : ∃ z, z = va_up σ_20 (K) (some (oO 11 [.int (iI ((md + 1))), .int (iI ((n + 1))), va_rf (fi), .ref (q_1)])) := ⟨_, rfl⟩
  have hS : tl_S X s σ_24 H locs := by rw [eσ_24]; exact hS
  have he_25 : σ_24 (K) = some (oO 11 [.int (iI ((md + 1))), .int (iI ((n + 1))), va_rf (fi), .ref (q_1)]) := by rw [eσ_24]; exact up_s
  have he_26 := up_kp eσ_24 (tl_ne he_22 he_21 (by decide)) he_22
  have he_27 := up_kp eσ_24 (tl_ne he_23 he_21 (by decide)) he_23
  refine W.widen (k := 1) (n := 3) (by omega) (by omega) ?_
  exact r_v C hr hlk hS ⟨q_1, fi, hq_1, hKL.add hq_1 he_25 (by rw [kP_pos (by omega)]; exact he_27) (fun i h0 hi nx0 hx => by have hbK : nd i ≠ K := tl_ne hx hK (by decide); have hbq : nd i ≠ q_1 := (fun z => by rw [z, hq_1] at hx; cases hx); by_cases hin : i = n - 1; (subst hin; exact ⟨some q_1, he_26⟩); (have hbN : nd i ≠ (nd (n - 1)) := (fun z => hin (hinj i (n - 1) h0 hi (by omega) (by omega) z)); exact ⟨nx0, by rw [eσ_24, up_n hbK, eσ_20, up_n hbK, eσ_16, up_n hbN, eσ_12, up_n hbK, hP_7, up_n hbq, eσ_2, up_n hbq]; exact hx⟩)), hS.fix, (fun b e hb hn => by have hbK : b ≠ K := ncl_ne hb hn hK (Or.inl rfl); have hbq : b ≠ q_1 := (fun z => by rw [z, hq_1] at hb; cases hb); have hbN : b ≠ (nd (n - 1)) := ncl_ne hb hn hN (Or.inr rfl); rw [eσ_24, up_n hbK, eσ_20, up_n hbK, eσ_16, up_n hbN, eσ_12, up_n hbK, hP_7, up_n hbq, eσ_2, up_n hbq]; exact hb)⟩ dJ4_linkLast_58

set_option maxHeartbeats 4000000 in
theorem m_KL_add (l : Launch) (X : tl_X) (σ : tl_H) (K : Nat) (md n : Int) (fi : Option Nat) (nd itm : Int → Nat) (hKL : KL σ K md n fi nd itm) (v : Nat) : tl_Met l X yJ4_add cJ4_add 2 ((Option.some FieldType.boolean)) 3 (1) (3) [.ref (K), .ref (v)] σ (tl_Qi X (fun r σ' => r = iI 1 ∧ ∃ (q : Nat) (fi' : Option Nat), σ q = none ∧ KL σ' K (md + 1) (n + 1) fi' (fun i => if i = n then q else nd i) (fun i => if i = n then v else itm i) ∧ KF X σ σ')) := by
  refine tl_start (by decide) (Nat.le_of_ble_eq_true rfl) (fun p e s m below meth c ls C hr hml hlk hnm hS hl => ?_)
  have hl : lv_has ls 2 [(0, .ref (K)), (1, .ref (v))] := hl
  refine lv_aload_n C.1 C.2.1 dJ4_add_0 rfl (lv_at hl 0 rfl) ?_
  refine lv_aload_n C.1 C.2.1 dJ4_add_1 rfl (lv_at hl 1 rfl) ?_
  refine tl_cv (t_V (n := 1) (ci := 11) C hml hS ((if z : n = 0 then m_KL_link0 l X σ K md n fi nd itm hKL v z else m_KL_link1 l X σ K md n fi nd itm hKL v (by have := hKL.2.1; omega))) q1275 q1276 q1277 q52 q1278 (by decide +kernel) hKL.1 rfl rfl hl.1 rfl (Nat.le_of_ble_eq_true rfl) dJ4_add_2 ⟨Nat.le_of_ble_eq_true rfl, Nat.le_of_ble_eq_true rfl⟩ ⟨by show 0 + (1) ≤ 1; omega, by show 0 + (3) ≤ 3; omega⟩) hS (fun σ_3 H locs hP_2 hS => ?_)
  refine ti_const C.1 C.2.1 dJ4_add_5 ?_
  refine W.widen (k := 1) (n := 3) (by omega) (by omega) ?_
  exact r_z (z := 1) C hr hlk hS (by first | exact tb01 _ | omega | decide) ⟨rfl, hP_2⟩ dJ4_add_6

theorem KL.drop {σ σ' : tl_H} {K : Nat} {md md' n : Int} {fi fi' : Option Nat} {nd itm : Int → Nat} (h : KL σ K md n fi nd itm) (hn : 0 < n) (h1 : σ' K = some (cK md' (n - 1) fi' (kP (n - 1) nd))) (h3 : ∀ i : Int, 0 ≤ i → i < n - 1 → ∀ nx, σ (nd i) = some (cN (some (itm i)) nx (kP i nd)) → ∃ nx', σ' (nd i) = some (cN (some (itm i)) nx' (kP i nd))) : KL σ' K md' (n - 1) fi' nd itm := by
  obtain ⟨g1, g2, g3, g4⟩ := h
  refine ⟨h1, by omega, fun i h0 hi => ?_, fun i j h0 hi h0' hj e => g4 i j h0 (by omega) h0' (by omega) e⟩
  obtain ⟨nx, hx⟩ := g3 i h0 (by omega)
  exact h3 i h0 hi nx hx
theorem gf_J4_39_12 {p : Program} {l : Launch} {e : Env} {R : Room} {s : State} {m : MethodId} {args : Array Value} {below : List Frame} {meth : Method} {c : Code} {H : Heap} {locs : List Loc} {cells slots : Nat} {Q : State → Prop} {cc : ByteArray} {pc : Nat} {ls : Array Slot} {rest : List Value} {X : tl_X} {σ : tl_H} {a : Nat} {fs : List Value} {v : Value} (C : tl_C X p s m args c cc RJ4) (hS : tl_S X s σ H locs) (he : σ a = some (oO 12 fs)) (hv : fs[0]? = some v) (hdg : decode cc pc = .ok (.getfield 39, 3)) (kk : W p l e R s m args below meth c H locs cells slots Q (F0 m (pc + 3) ls (v :: rest))) : W p l e R s m args below meth c H locs cells slots Q (F0 m pc ls (.ref a :: rest)) :=
  h_get (ref := "java/util/LinkedList$Node") C hS in_J36 rfl 0 (by decide) q1286 (fun _ h => h) he hv hdg kk
theorem gf_J4_30_12 {p : Program} {l : Launch} {e : Env} {R : Room} {s : State} {m : MethodId} {args : Array Value} {below : List Frame} {meth : Method} {c : Code} {H : Heap} {locs : List Loc} {cells slots : Nat} {Q : State → Prop} {cc : ByteArray} {pc : Nat} {ls : Array Slot} {rest : List Value} {X : tl_X} {σ : tl_H} {a : Nat} {fs : List Value} {v : Value} (C : tl_C X p s m args c cc RJ4) (hS : tl_S X s σ H locs) (he : σ a = some (oO 12 fs)) (hv : fs[2]? = some v) (hdg : decode cc pc = .ok (.getfield 30, 3)) (kk : W p l e R s m args below meth c H locs cells slots Q (F0 m (pc + 3) ls (v :: rest))) : W p l e R s m args below meth c H locs cells slots Q (F0 m pc ls (.ref a :: rest)) :=
  h_get (ref := "java/util/LinkedList$Node") C hS in_J36 rfl 2 (by decide) q1290 (fun _ h => h) he hv hdg kk
theorem gp_J4_39_12 {p : Program} {l : Launch} {e : Env} {R : Room} {s : State} {m : MethodId} {args : Array Value} {below : List Frame} {meth : Method} {c : Code} {H : Heap} {locs : List Loc} {cells slots : Nat} {Q : State → Prop} {cc : ByteArray} {pc : Nat} {ls : Array Slot} {rest : List Value} {X : tl_X} {σ : tl_H} {a : Nat} {fs : List Value} {v : Value} (C : tl_C X p s m args c cc RJ4) (hS : tl_S X s σ H locs) (he : σ a = some (oO 12 fs)) (hn : narrow (tyJ36 0) v = v) (hfit : fits (tyJ36 0) v = true) (hl : 0 < fs.length) (hdg : decode cc pc = .ok (.putfield 39, 3)) (kk : ∀ (H1 : Heap) (locs1 : List Loc), tl_S X s (va_up σ a (some (oO 12 (fs.set 0 v)))) H1 locs1 → W p l e R s m args below meth c H1 locs1 cells slots Q (F0 m (pc + 3) ls rest)) : W p l e R s m args below meth c H locs cells slots Q (F0 m pc ls (v :: .ref a :: rest)) :=
  h_put (ref := "java/util/LinkedList$Node") C hS in_J36 tyJ36 tyJ36_ok nmJ36 rfl 0 (by decide) q1286 (fun _ h => h) rfl (by decide) he hn hfit hl hdg kk
theorem gp_J4_30_12 {p : Program} {l : Launch} {e : Env} {R : Room} {s : State} {m : MethodId} {args : Array Value} {below : List Frame} {meth : Method} {c : Code} {H : Heap} {locs : List Loc} {cells slots : Nat} {Q : State → Prop} {cc : ByteArray} {pc : Nat} {ls : Array Slot} {rest : List Value} {X : tl_X} {σ : tl_H} {a : Nat} {fs : List Value} {v : Value} (C : tl_C X p s m args c cc RJ4) (hS : tl_S X s σ H locs) (he : σ a = some (oO 12 fs)) (hn : narrow (tyJ36 2) v = v) (hfit : fits (tyJ36 2) v = true) (hl : 2 < fs.length) (hdg : decode cc pc = .ok (.putfield 30, 3)) (kk : ∀ (H1 : Heap) (locs1 : List Loc), tl_S X s (va_up σ a (some (oO 12 (fs.set 2 v)))) H1 locs1 → W p l e R s m args below meth c H1 locs1 cells slots Q (F0 m (pc + 3) ls rest)) : W p l e R s m args below meth c H locs cells slots Q (F0 m pc ls (v :: .ref a :: rest)) :=
  h_put (ref := "java/util/LinkedList$Node") C hS in_J36 tyJ36 tyJ36_ok nmJ36 rfl 2 (by decide) q1290 (fun _ h => h) rfl (by decide) he hn hfit hl hdg kk
set_option maxHeartbeats 4000000 in
theorem m_KL_unlink0 (l : Launch) (X : tl_X) (σ : tl_H) (K : Nat) (md n : Int) (fi : Option Nat) (nd itm : Int → Nat) (hKL : KL σ K md n fi nd itm) (hn0 : n = 1) : tl_Met l X yJ4_unlinkLast cJ4_unlinkLast 4 ((Option.some (FieldType.object "java/lang/Object"))) 1 (0) (0) [.ref (K), .ref (nd (n - 1))] σ (tl_Qq X (fun r σ' => r = some (itm (n - 1)) ∧ ∃ fi' : Option Nat, KL σ' K (md + 1) (n - 1) fi' nd itm ∧ KF X σ σ')) := by
  have hK : σ K = some (oO 11 [.int (iI md), .int (iI n), va_rf fi, .ref (nd (n - 1))]) := by rw [hKL.1, kP_pos (by omega)]; rfl
  obtain ⟨nx, hN⟩ := hKL.2.2.1 (n - 1) (by omega) (by omega)
  have hinj := hKL.2.2.2
  have hN : σ (nd (n - 1)) = some (oO 12 [.ref (itm (n - 1)), va_rf nx, .null]) := by rw [hN, show n - 1 = 0 by omega, kP_0]; rfl
  refine tl_start (by decide) (Nat.le_of_ble_eq_true rfl) (fun p e s m below meth c ls C hr hml hlk hnm hS hl => ?_)
  have hl : lv_has ls 4 [(0, .ref (K)), (1, .ref (nd (n - 1)))] := hl
  refine lv_aload_n C.1 C.2.1 dJ4_unlinkLast_0 rfl (lv_at hl 1 rfl) ?_
  refine gf_J4_39_12 C hS hN rfl dJ4_unlinkLast_1 ?_
  refine lv_astore_n (lv' := [(2, .ref (itm (n - 1))), (0, .ref (K)), (1, .ref (nd (n - 1)))]) C.1 C.2.1 dJ4_unlinkLast_4 rfl hl (by decide) rfl (fun ls hl => ?_)
  refine lv_aload_n C.1 C.2.1 dJ4_unlinkLast_5 rfl (lv_at hl 2 rfl) ?_
  refine gf_J4_30_12 C hS hN rfl dJ4_unlinkLast_6 ?_
  refine lv_astore_nN (lv' := [(3, .null), (2, .ref (itm (n - 1))), (0, .ref (K)), (1, .ref (nd (n - 1)))]) C.1 C.2.1 dJ4_unlinkLast_9 rfl hl (by decide) rfl (fun ls hl => ?_)
  refine lv_aload_n C.1 C.2.1 dJ4_unlinkLast_10 rfl (lv_at hl 3 rfl) ?_
  refine lv_null C.1 C.2.1 dJ4_unlinkLast_11 ?_
  refine gp_J4_39_12 C hS hN rfl rfl (Nat.le_of_ble_eq_true rfl) dJ4_unlinkLast_12 (fun H locs hS => ?_)
  obtain ⟨σ_1, eσ_1⟩ : ∃ z, z = va_up σ (nd (n - 1)) (some (oO 12 [.null, va_rf (nx), .null])) := ⟨_, rfl⟩
  have hS : tl_S X s σ_1 H locs := by rw [eσ_1]; exact hS
  have he_2 := up_kp eσ_1 (tl_ne hK hN (by decide)) hK
  have he_3 : σ_1 (nd (n - 1)) = some (oO 12 [.null, va_rf (nx), .null]) := by rw [eσ_1]; exact up_s
  refine lv_aload_n C.1 C.2.1 dJ4_unlinkLast_15 rfl (lv_at hl 3 rfl) ?_
  refine lv_null C.1 C.2.1 dJ4_unlinkLast_16 ?_
  refine gp_J4_30_12 C hS he_3 rfl rfl (Nat.le_of_ble_eq_true rfl) dJ4_unlinkLast_17 (fun H locs hS => ?_)
  obtain ⟨σ_4, eσ_4⟩ : ∃ z, z = va_up σ_1 (nd (n - 1)) (some (oO 12 [.null, va_rf (nx), .null])) := ⟨_, rfl⟩
  have hS : tl_S X s σ_4 H locs := by rw [eσ_4]; exact hS
  have he_5 := up_kp eσ_4 (tl_ne he_2 he_3 (by decide)) he_2
  have he_6 : σ_4 (nd (n - 1)) = some (oO 12 [.null, va_rf (nx), .null]) := by rw [eσ_4]; exact up_s
  refine lv_aload_n C.1 C.2.1 dJ4_unlinkLast_20 rfl (lv_at hl 2 rfl) ?_
  refine lv_aload_nN C.1 C.2.1 dJ4_unlinkLast_21 rfl (lv_at hl 0 rfl) ?_
  refine gp_J4_27_11 C hS he_5 rfl rfl (Nat.le_of_ble_eq_true rfl) dJ4_unlinkLast_22 (fun H locs hS => ?_)
  obtain ⟨σ_7, eσ_7⟩ : ∃ z, z = va_up σ_4 (K) (some (oO 11 [.int (iI (md)), .int (iI (n)), va_rf (fi), .null])) := ⟨_, rfl⟩
  have hS : tl_S X s σ_7 H locs := by rw [eσ_7]; exact hS
  have he_8 : σ_7 (K) = some (oO 11 [.int (iI (md)), .int (iI (n)), va_rf (fi), .null]) := by rw [eσ_7]; exact up_s
  have he_9 := up_kp eσ_7 (tl_ne he_6 he_5 (by decide)) he_6
  refine lv_aload_nN C.1 C.2.1 dJ4_unlinkLast_25 rfl (lv_at hl 0 rfl) ?_
  refine lv_ifnonnullN C.1 C.2.1 dJ4_unlinkLast_26 ?_
  refine lv_aload_n C.1 C.2.1 dJ4_unlinkLast_29 rfl (lv_at hl 2 rfl) ?_
  refine lv_null C.1 C.2.1 dJ4_unlinkLast_30 ?_
  refine gp_J4_18_11 C hS he_8 rfl rfl (Nat.le_of_ble_eq_true rfl) dJ4_unlinkLast_31 (fun H locs hS => ?_)
  obtain ⟨σ_10, eσ_10⟩ : ∃ z, z = va_up σ_7 (K) (some (oO 11 [.int (iI (md)), .int (iI (n)), .null, .null])) := ⟨_, rfl⟩
  have hS : tl_S X s σ_10 H locs := by rw [eσ_10]; exact hS
  have he_11 : σ_10 (K) = some (oO 11 [.int (iI (md)), .int (iI (n)), .null, .null]) := by rw [eσ_10]; exact up_s
  have he_12 := up_kp eσ_10 (tl_ne he_9 he_8 (by decide)) he_9
  refine lv_goto (tgt := 42) C.1 C.2.1 dJ4_unlinkLast_34 (by decide) ?_
  refine lv_aload_n C.1 C.2.1 dJ4_unlinkLast_42 rfl (lv_at hl 2 rfl) ?_
  refine lv_dup C.1 C.2.1 dJ4_unlinkLast_43 rfl ?_
  refine gf_J4_7_11 C hS he_11 rfl dJ4_unlinkLast_44 ?_
  refine ti_const C.1 C.2.1 dJ4_unlinkLast_47 ?_
  refine ti_isub C.1 C.2.1 dJ4_unlinkLast_48 ?_
  refine gp_J4_7_11 C hS he_11 rfl rfl (Nat.le_of_ble_eq_true rfl) dJ4_unlinkLast_49 (fun H locs hS => ?_)
  obtain ⟨σ_13, eσ_13⟩ : ∃ z, z = va_up σ_10 (K) (some (oO 11 [.int (iI (md)), .int (iI ((n - 1))), .null, .null])) := ⟨_, rfl⟩
  have hS : tl_S X s σ_13 H locs := by rw [eσ_13]; exact hS
  have he_14 : σ_13 (K) = some (oO 11 [.int (iI (md)), .int (iI ((n - 1))), .null, .null]) := by rw [eσ_13]; exact up_s
  have he_15 := up_kp eσ_13 (tl_ne he_12 he_11 (by decide)) he_12
  refine lv_aload_n C.1 C.2.1 dJ4_unlinkLast_52 rfl (lv_at hl 2 rfl) ?_
  refine lv_dup C.1 C.2.1 dJ4_unlinkLast_53 rfl ?_
  refine gf_J4_33_11 C hS he_14 rfl dJ4_unlinkLast_54 ?_
  refine ti_const C.1 C.2.1 dJ4_unlinkLast_57 ?_
  refine ti_iadd C.1 C.2.1 dJ4_unlinkLast_58 ?_
  refine gp_J4_33_11 C hS he_14 rfl rfl (Nat.le_of_ble_eq_true rfl) dJ4_unlinkLast_59 (fun H locs hS => ?_)
  obtain ⟨σ_16, eσ_16⟩ : ∃ z, z = va_up σ_13 (K) (some (oO 11 [.int (iI ((md + 1))), .int (iI ((n - 1))), .null, .null])) := ⟨_, rfl⟩
  have hS : tl_S X s σ_16 H locs := by rw [eσ_16]; exact hS
  have he_17 : σ_16 (K) = some (oO 11 [.int (iI ((md + 1))), .int (iI ((n - 1))), .null, .null]) := by rw [eσ_16]; exact up_s
  have he_18 := up_kp eσ_16 (tl_ne he_15 he_14 (by decide)) he_15
  refine lv_aload_n C.1 C.2.1 dJ4_unlinkLast_62 rfl (lv_at hl 1 rfl) ?_
  exact r_q (v := (some (itm (n - 1)))) C hr (by first | exact Or.inl ⟨_, rfl⟩ | exact Or.inr ⟨_, rfl⟩) hlk hS ⟨rfl, none, hKL.drop (by omega) (by rw [show n - 1 = 0 by omega, kP_0]; rw [show n - 1 = 0 by omega] at he_17; exact he_17) (fun i h0 hi => by exfalso; omega), hS.fix, (fun b e hb hn => by have hbK : b ≠ K := ncl_ne hb hn hK (Or.inl rfl); have hbN : b ≠ (nd (n - 1)) := ncl_ne hb hn hN (Or.inr rfl); rw [eσ_16, up_n hbK, eσ_13, up_n hbK, eσ_10, up_n hbK, eσ_7, up_n hbK, eσ_4, up_n hbN, eσ_1, up_n hbN]; exact hb)⟩ dJ4_unlinkLast_63

set_option maxHeartbeats 4000000 in
theorem m_KL_unlink1 (l : Launch) (X : tl_X) (σ : tl_H) (K : Nat) (md n : Int) (fi : Option Nat) (nd itm : Int → Nat) (hKL : KL σ K md n fi nd itm) (hn0 : 1 < n) : tl_Met l X yJ4_unlinkLast cJ4_unlinkLast 4 ((Option.some (FieldType.object "java/lang/Object"))) 1 (0) (0) [.ref (K), .ref (nd (n - 1))] σ (tl_Qq X (fun r σ' => r = some (itm (n - 1)) ∧ ∃ fi' : Option Nat, KL σ' K (md + 1) (n - 1) fi' nd itm ∧ KF X σ σ')) := by
  have hK : σ K = some (oO 11 [.int (iI md), .int (iI n), va_rf fi, .ref (nd (n - 1))]) := by rw [hKL.1, kP_pos (by omega)]; rfl
  obtain ⟨nx, hN⟩ := hKL.2.2.1 (n - 1) (by omega) (by omega)
  have hinj := hKL.2.2.2
  have hN : σ (nd (n - 1)) = some (oO 12 [.ref (itm (n - 1)), va_rf nx, .ref (nd (n - 1 - 1))]) := by rw [hN, kP_pos (by omega)]; rfl
  obtain ⟨nx2, hM⟩ := hKL.2.2.1 (n - 1 - 1) (by omega) (by omega)
  have hNM : (nd (n - 1)) ≠ (nd (n - 1 - 1)) := fun z => by have := hinj (n - 1) (n - 1 - 1) (by omega) (by omega) (by omega) (by omega) z; omega
  refine tl_start (by decide) (Nat.le_of_ble_eq_true rfl) (fun p e s m below meth c ls C hr hml hlk hnm hS hl => ?_)
  have hl : lv_has ls 4 [(0, .ref (K)), (1, .ref (nd (n - 1)))] := hl
  refine lv_aload_n C.1 C.2.1 dJ4_unlinkLast_0 rfl (lv_at hl 1 rfl) ?_
  refine gf_J4_39_12 C hS hN rfl dJ4_unlinkLast_1 ?_
  refine lv_astore_n (lv' := [(2, .ref (itm (n - 1))), (0, .ref (K)), (1, .ref (nd (n - 1)))]) C.1 C.2.1 dJ4_unlinkLast_4 rfl hl (by decide) rfl (fun ls hl => ?_)
  refine lv_aload_n C.1 C.2.1 dJ4_unlinkLast_5 rfl (lv_at hl 2 rfl) ?_
  refine gf_J4_30_12 C hS hN rfl dJ4_unlinkLast_6 ?_
  refine lv_astore_n (lv' := [(3, .ref (nd (n - 1 - 1))), (2, .ref (itm (n - 1))), (0, .ref (K)), (1, .ref (nd (n - 1)))]) C.1 C.2.1 dJ4_unlinkLast_9 rfl hl (by decide) rfl (fun ls hl => ?_)
  refine lv_aload_n C.1 C.2.1 dJ4_unlinkLast_10 rfl (lv_at hl 3 rfl) ?_
  refine lv_null C.1 C.2.1 dJ4_unlinkLast_11 ?_
  refine gp_J4_39_12 C hS hN rfl rfl (Nat.le_of_ble_eq_true rfl) dJ4_unlinkLast_12 (fun H locs hS => ?_)
  obtain ⟨σ_1, eσ_1⟩ : ∃ z, z = va_up σ (nd (n - 1)) (some (oO 12 [.null, va_rf (nx), .ref (nd (n - 1 - 1))])) := ⟨_, rfl⟩
  have hS : tl_S X s σ_1 H locs := by rw [eσ_1]; exact hS
  have he_2 := up_kp eσ_1 (tl_ne hK hN (by decide)) hK
  have he_3 : σ_1 (nd (n - 1)) = some (oO 12 [.null, va_rf (nx), .ref (nd (n - 1 - 1))]) := by rw [eσ_1]; exact up_s
  have he_4 := up_kp eσ_1 (Ne.symm hNM) hM
  refine lv_aload_n C.1 C.2.1 dJ4_unlinkLast_15 rfl (lv_at hl 3 rfl) ?_
  refine lv_null C.1 C.2.1 dJ4_unlinkLast_16 ?_
  refine gp_J4_30_12 C hS he_3 rfl rfl (Nat.le_of_ble_eq_true rfl) dJ4_unlinkLast_17 (fun H locs hS => ?_)
  obtain ⟨σ_5, eσ_5⟩ : ∃ z, z = va_up σ_1 (nd (n - 1)) (some (oO 12 [.null, va_rf (nx), .null])) := ⟨_, rfl⟩
  have hS : tl_S X s σ_5 H locs := by rw [eσ_5]; exact hS
  have he_6 := up_kp eσ_5 (tl_ne he_2 he_3 (by decide)) he_2
  have he_7 : σ_5 (nd (n - 1)) = some (oO 12 [.null, va_rf (nx), .null]) := by rw [eσ_5]; exact up_s
  have he_8 := up_kp eσ_5 (Ne.symm hNM) he_4
  refine lv_aload_n C.1 C.2.1 dJ4_unlinkLast_20 rfl (lv_at hl 2 rfl) ?_
  refine lv_aload_n C.1 C.2.1 dJ4_unlinkLast_21 rfl (lv_at hl 0 rfl) ?_
  refine gp_J4_27_11 C hS he_6 rfl rfl (Nat.le_of_ble_eq_true rfl) dJ4_unlinkLast_22 (fun H locs hS => ?_)
  obtain ⟨σ_9, eσ_9⟩ : ∃ z, z = va_up σ_5 (K) (some (oO 11 [.int (iI (md)), .int (iI (n)), va_rf (fi), .ref (nd (n - 1 - 1))])) := ⟨_, rfl⟩
  have hS : tl_S X s σ_9 H locs := by rw [eσ_9]; exact hS
  have he_10 : σ_9 (K) = some (oO 11 [.int (iI (md)), .int (iI (n)), va_rf (fi), .ref (nd (n - 1 - 1))]) := by rw [eσ_9]; exact up_s
  have he_11 := up_kp eσ_9 (tl_ne he_7 he_6 (by decide)) he_7
  have he_12 := up_kp eσ_9 (tl_ne he_8 he_6 (by decide)) he_8
  refine lv_aload_n C.1 C.2.1 dJ4_unlinkLast_25 rfl (lv_at hl 0 rfl) ?_
  refine lv_ifnonnull (tgt := 37) C.1 C.2.1 dJ4_unlinkLast_26 (by decide) ?_
  refine lv_aload_n C.1 C.2.1 dJ4_unlinkLast_37 rfl (lv_at hl 0 rfl) ?_
  refine lv_null C.1 C.2.1 dJ4_unlinkLast_38 ?_
  refine gp_J4_36_12 C hS he_12 rfl rfl (Nat.le_of_ble_eq_true rfl) dJ4_unlinkLast_39 (fun H locs hS => ?_)
  obtain ⟨σ_13, eσ_13⟩ : ∃ z, z = va_up σ_9 (nd (n - 1 - 1)) (some (oO 12 [.ref (itm (n - 1 - 1)), .null, va_rf (kP (n - 1 - 1) nd)])) := ⟨_, rfl⟩
  have hS : tl_S X s σ_13 H locs := by rw [eσ_13]; exact hS
  have he_14 := up_kp eσ_13 (tl_ne he_10 he_12 (by decide)) he_10
  have he_15 := up_kp eσ_13 hNM he_11
  have he_16 : σ_13 (nd (n - 1 - 1)) = some (oO 12 [.ref (itm (n - 1 - 1)), .null, va_rf (kP (n - 1 - 1) nd)]) := by rw [eσ_13]; exact up_s
  refine lv_aload_n C.1 C.2.1 dJ4_unlinkLast_42 rfl (lv_at hl 2 rfl) ?_
  refine lv_dup C.1 C.2.1 dJ4_unlinkLast_43 rfl ?_
  refine gf_J4_7_11 C hS he_14 rfl dJ4_unlinkLast_44 ?_
  refine ti_const C.1 C.2.1 dJ4_unlinkLast_47 ?_
  refine ti_isub C.1 C.2.1 dJ4_unlinkLast_48 ?_
  refine gp_J4_7_11 C hS he_14 rfl rfl (Nat.le_of_ble_eq_true rfl) dJ4_unlinkLast_49 (fun H locs hS => ?_)
  obtain ⟨σ_17, eσ_17⟩ : ∃ z, z = va_up σ_13 (K) (some (oO 11 [.int (iI (md)), .int (iI ((n - 1))), va_rf (fi), .ref (nd (n - 1 - 1))])) := ⟨_, rfl⟩
  have hS : tl_S X s σ_17 H locs := by rw [eσ_17]; exact hS
  have he_18 : σ_17 (K) = some (oO 11 [.int (iI (md)), .int (iI ((n - 1))), va_rf (fi), .ref (nd (n - 1 - 1))]) := by rw [eσ_17]; exact up_s
  have he_19 := up_kp eσ_17 (tl_ne he_15 he_14 (by decide)) he_15
  have he_20 := up_kp eσ_17 (tl_ne he_16 he_14 (by decide)) he_16
  refine lv_aload_n C.1 C.2.1 dJ4_unlinkLast_52 rfl (lv_at hl 2 rfl) ?_
  refine lv_dup C.1 C.2.1 dJ4_unlinkLast_53 rfl ?_
  refine gf_J4_33_11 C hS he_18 rfl dJ4_unlinkLast_54 ?_
  refine ti_const C.1 C.2.1 dJ4_unlinkLast_57 ?_
  refine ti_iadd C.1 C.2.1 dJ4_unlinkLast_58 ?_
  refine gp_J4_33_11 C hS he_18 rfl rfl (Nat.le_of_ble_eq_true rfl) dJ4_unlinkLast_59 (fun H locs hS => ?_)
  obtain ⟨σ_21, eσ_21⟩ : ∃ z, z = va_up σ_17 (K) (some (oO 11 [.int (iI ((md + 1))), .int (iI ((n - 1))), va_rf (fi), .ref (nd (n - 1 - 1))])) := ⟨_, rfl⟩
  have hS : tl_S X s σ_21 H locs := by rw [eσ_21]; exact hS
  have he_22 : σ_21 (K) = some (oO 11 [.int (iI ((md + 1))), .int (iI ((n - 1))), va_rf (fi), .ref (nd (n - 1 - 1))]) := by rw [eσ_21]; exact up_s
  have he_23 := up_kp eσ_21 (tl_ne he_19 he_18 (by decide)) he_19
  have he_24 := up_kp eσ_21 (tl_ne he_20 he_18 (by decide)) he_20
  refine lv_aload_n C.1 C.2.1 dJ4_unlinkLast_62 rfl (lv_at hl 1 rfl) ?_
  exact r_q (v := (some (itm (n - 1)))) C hr (by first | exact Or.inl ⟨_, rfl⟩ | exact Or.inr ⟨_, rfl⟩) hlk hS ⟨rfl, fi, hKL.drop (by omega) (by rw [kP_pos (by omega)]; exact he_22) (fun i h0 hi nx0 hx => by have hbK : nd i ≠ K := tl_ne hx hK (by decide); have hbN : nd i ≠ (nd (n - 1)) := (fun z => by have := hinj i (n - 1) h0 (by omega) (by omega) (by omega) z; omega); by_cases hin : i = n - 1 - 1; (subst hin; exact ⟨none, he_24⟩); (have hbM : nd i ≠ (nd (n - 1 - 1)) := (fun z => hin (hinj i (n - 1 - 1) h0 (by omega) (by omega) (by omega) z)); exact ⟨nx0, by rw [eσ_21, up_n hbK, eσ_17, up_n hbK, eσ_13, up_n hbM, eσ_9, up_n hbK, eσ_5, up_n hbN, eσ_1, up_n hbN]; exact hx⟩)), hS.fix, (fun b e hb hn => by have hbK : b ≠ K := ncl_ne hb hn hK (Or.inl rfl); have hbN : b ≠ (nd (n - 1)) := ncl_ne hb hn hN (Or.inr rfl); have hbM : b ≠ (nd (n - 1 - 1)) := ncl_ne hb hn hM (Or.inr rfl); rw [eσ_21, up_n hbK, eσ_17, up_n hbK, eσ_13, up_n hbM, eσ_9, up_n hbK, eσ_5, up_n hbN, eσ_1, up_n hbN]; exact hb)⟩ dJ4_unlinkLast_63

set_option maxHeartbeats 4000000 in
theorem m_KL_removeLast (l : Launch) (X : tl_X) (σ : tl_H) (K : Nat) (md n : Int) (fi : Option Nat) (nd itm : Int → Nat) (hKL : KL σ K md n fi nd itm) (hn : 0 < n) : tl_Met l X yJ4_removeLast cJ4_removeLast 2 ((Option.some (FieldType.object "java/lang/Object"))) 2 (0) (0) [.ref (K)] σ (tl_Qq X (fun r σ' => r = some (itm (n - 1)) ∧ ∃ fi' : Option Nat, KL σ' K (md + 1) (n - 1) fi' nd itm ∧ KF X σ σ')) := by
  have hK : σ K = some (oO 11 [.int (iI md), .int (iI n), va_rf fi, .ref (nd (n - 1))]) := by rw [hKL.1, kP_pos hn]; rfl
  refine tl_start (by decide) (Nat.le_of_ble_eq_true rfl) (fun p e s m below meth c ls C hr hml hlk hnm hS hl => ?_)
  have hl : lv_has ls 2 [(0, .ref (K))] := hl
  refine lv_aload_n C.1 C.2.1 dJ4_removeLast_0 rfl (lv_at hl 0 rfl) ?_
  refine gf_J4_27_11 C hS hK rfl dJ4_removeLast_1 ?_
  refine lv_astore_n (lv' := [(1, .ref (nd (n - 1))), (0, .ref (K))]) C.1 C.2.1 dJ4_removeLast_4 rfl hl (by decide) rfl (fun ls hl => ?_)
  refine lv_aload_n C.1 C.2.1 dJ4_removeLast_5 rfl (lv_at hl 0 rfl) ?_
  refine lv_ifnonnull (tgt := 17) C.1 C.2.1 dJ4_removeLast_6 (by decide) ?_
  refine lv_aload_n C.1 C.2.1 dJ4_removeLast_17 rfl (lv_at hl 1 rfl) ?_
  refine lv_aload_n C.1 C.2.1 dJ4_removeLast_18 rfl (lv_at hl 0 rfl) ?_
  refine tl_cq (t_V (n := 1) (ci := 11) C hml hS ((if z : n = 1 then m_KL_unlink0 l X σ K md n fi nd itm hKL z else m_KL_unlink1 l X σ K md n fi nd itm hKL (by omega))) q1620 q1622 qs19 q52 q1623 (by decide +kernel) hK rfl rfl hl.1 rfl (Nat.le_of_ble_eq_true rfl) dJ4_removeLast_19 ⟨Nat.le_of_ble_eq_true rfl, Nat.le_of_ble_eq_true rfl⟩ ⟨Nat.le_refl _, Nat.le_refl _⟩) hS (fun r_1 σ_3 H locs hP_2 hS => ?_)
  exact r_q (v := (r_1)) C hr (by first | exact Or.inl ⟨_, rfl⟩ | exact Or.inr ⟨_, rfl⟩) hlk hS hP_2 dJ4_removeLast_22

