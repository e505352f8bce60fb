/-! BOARD's readers (printed by gen_board.py) -/
set_option maxRecDepth 100000
theorem gf_X3_28_1 {p : Program} {l : Launch} {e : Env} {R : Room} {s : State} {m : MethodId} {args : Array Value} {below : List Frame} {meth : Method} {c : Code} {H : Heap} {locs : List Loc} {cells slots : Nat} {Q : State → Prop} {cc : ByteArray} {pc : Nat} {ls : Array Slot} {rest : List Value} {X : tl_X} {σ : tl_H} {a : Nat} {fs : List Value} {v : Value} (C : tl_C X p s m args c cc RX3) (hS : tl_S X s σ H locs) (he : σ a = some (oO 1 fs)) (hv : fs[2]? = some v) (hdg : decode cc pc = .ok (.getfield 28, 3)) (kk : W p l e R s m args below meth c H locs cells slots Q (F0 m (pc + 3) ls (v :: rest))) : W p l e R s m args below meth c H locs cells slots Q (F0 m pc ls (.ref a :: rest)) :=
  h_get (ref := "TimberList$Board") C hS in_X3 rfl 2 (by decide) q1376 (fun _ h => h) he hv hdg kk
theorem gf_X3_12_1 {p : Program} {l : Launch} {e : Env} {R : Room} {s : State} {m : MethodId} {args : Array Value} {below : List Frame} {meth : Method} {c : Code} {H : Heap} {locs : List Loc} {cells slots : Nat} {Q : State → Prop} {cc : ByteArray} {pc : Nat} {ls : Array Slot} {rest : List Value} {X : tl_X} {σ : tl_H} {a : Nat} {fs : List Value} {v : Value} (C : tl_C X p s m args c cc RX3) (hS : tl_S X s σ H locs) (he : σ a = some (oO 1 fs)) (hv : fs[3]? = some v) (hdg : decode cc pc = .ok (.getfield 12, 3)) (kk : W p l e R s m args below meth c H locs cells slots Q (F0 m (pc + 3) ls (v :: rest))) : W p l e R s m args below meth c H locs cells slots Q (F0 m pc ls (.ref a :: rest)) :=
  h_get (ref := "TimberList$Board") C hS in_X3 rfl 3 (by decide) q1377 (fun _ h => h) he hv hdg kk
theorem gf_X3_45_3 {p : Program} {l : Launch} {e : Env} {R : Room} {s : State} {m : MethodId} {args : Array Value} {below : List Frame} {meth : Method} {c : Code} {H : Heap} {locs : List Loc} {cells slots : Nat} {Q : State → Prop} {cc : ByteArray} {pc : Nat} {ls : Array Slot} {rest : List Value} {X : tl_X} {σ : tl_H} {a : Nat} {fs : List Value} {v : Value} (C : tl_C X p s m args c cc RX3) (hS : tl_S X s σ H locs) (he : σ a = some (oO 3 fs)) (hv : fs[2]? = some v) (hdg : decode cc pc = .ok (.getfield 45, 3)) (kk : W p l e R s m args below meth c H locs cells slots Q (F0 m (pc + 3) ls (v :: rest))) : W p l e R s m args below meth c H locs cells slots Q (F0 m pc ls (.ref a :: rest)) :=
  h_get (ref := "TimberList$Defect") C hS in_X5 rfl 2 (by decide) q1437 (fun _ h => h) he hv hdg kk
set_option maxHeartbeats 4000000 in
theorem m_gradeAt (l : Launch) (X : tl_X) (σ : tl_H) (b : Nat) (ln wd gr : Int) (Ld Lp : Nat) (hb : σ b = some (cB ln wd gr Ld Lp)) (hgr : iS gr) (dn dmd : Int) (da : Int → Nat) (darr dcap : Nat) (dF dT dG : Int → Int) (hD : DL X σ Ld dmd dn da darr dcap dF dT dG) (z : Int) (hz : iS z) : tl_Met l X yX3_gradeAt cX3_gradeAt 4 ((Option.some FieldType.int)) 4 (0) (0) [.ref (b), .int (iI (z))] σ (tl_Qi X (fun r σ' => r = iI (gAt gr dF dT dG z dn.toNat) ∧ σ = σ')) := by
  have hdn := hD.1.2.2
  refine tl_start (by decide) (Nat.le_of_ble_eq_true rfl) (fun p e s m below meth c ls C hr hml hlk hnm hS hl => ?_)
  have hl : lv_has ls 4 [(0, .ref (b)), (1, .int (iI (z)))] := hl
  refine lv_aload_n C.1 C.2.1 dX3_gradeAt_0 rfl (lv_at hl 0 rfl) ?_
  refine gf_X3_28_1 C hS hb rfl dX3_gradeAt_1 ?_
  refine lv_istore_n (lv' := [(2, .int (iI (gr))), (0, .ref (b)), (1, .int (iI (z)))]) C.1 C.2.1 dX3_gradeAt_4 rfl hl (by decide) rfl (fun ls hl => ?_)
  refine ti_const C.1 C.2.1 dX3_gradeAt_5 ?_
  refine lv_istore_n (lv' := [(3, .int (iI (0))), (2, .int (iI (gr))), (0, .ref (b)), (1, .int (iI (z)))]) C.1 C.2.1 dX3_gradeAt_6 rfl hl (by decide) rfl (fun ls hl => ?_)
  have loop_1 : ∀ (n_2 : Nat) (ws : Int) (k : Int), 0 ≤ k ∧ k ≤ dn ∧ ws = gAt gr dF dT dG z k.toNat ∧ -1000000 ≤ ws ∧ ws ≤ 1000000 → dn - k < (n_2 : Int) → ∀ (H : Heap) (locs : List Loc) (ls : Array Slot), tl_S X s σ H locs → lv_has ls 4 [(3, .int (iI (k))), (2, .int (iI (ws))), (0, .ref (b)), (1, .int (iI (z)))] → W p l e (tl_rm 4 (0) (0)) s m ([.ref (b), .int (iI (z))] : List Value).toArray below meth c H locs (0) (0) (MQ below (tl_Qi X (fun r σ' => r = iI (gAt gr dF dT dG z dn.toNat) ∧ σ = σ')) ([.ref (b), .int (iI (z))] : List Value).toArray s (0) (0) (tl_A X)) (F0 m 7 ls []) := by
    intro n_2
    induction n_2 with
    | zero => intro ws k hinv hms; omega
    | succ n_2 ih_3 =>
      intro ws k hinv hms_4  H locs ls hS hl
      obtain ⟨hk0, hkn, hws, hw1, hw2⟩ := hinv
      refine lv_iload_n C.1 C.2.1 dX3_gradeAt_7 rfl (lv_at hl 0 rfl) ?_
      refine lv_aload_n C.1 C.2.1 dX3_gradeAt_8 rfl (lv_at hl 2 rfl) ?_
      refine gf_X3_12_1 C hS hb rfl dX3_gradeAt_9 ?_
      refine tl_ci (t_V (n := 0) (ci := 9) C hml hS (m_AL_size l X σ Ld dmd dn da darr dcap hD.1) q311 q312 q313 q50 q314 (by decide +kernel) hD.1.1 rfl rfl hl.1 rfl (Nat.le_of_ble_eq_true rfl) dX3_gradeAt_12 ⟨Nat.le_of_ble_eq_true rfl, Nat.le_of_ble_eq_true rfl⟩ ⟨Nat.le_refl _, Nat.le_refl _⟩) hS (fun r_5 σ_7 H locs hP_6 hS => ?_)
      obtain ⟨rfl, rfl⟩ := hP_6
      refine ti_icmp_ge (tgt := 61) C.1 C.2.1 dX3_gradeAt_15 (by decide) ⟨by omega, by omega⟩ ⟨by omega, by omega⟩ (fun hc_8 => ?_) (fun hc_8 => ?_)
      · skip
        refine lv_iload_n C.1 C.2.1 dX3_gradeAt_61 rfl (lv_at hl 1 rfl) ?_
        exact r_i C hr hlk hS ⟨by rw [hws, show k = dn by omega], rfl⟩ dX3_gradeAt_62
      · skip
        refine lv_aload_n C.1 C.2.1 dX3_gradeAt_18 rfl (lv_at hl 2 rfl) ?_
        refine gf_X3_12_1 C hS hb rfl dX3_gradeAt_19 ?_
        refine lv_iload_n C.1 C.2.1 dX3_gradeAt_22 rfl (lv_at hl 0 rfl) ?_
        refine tl_cq (t_V (n := 1) (ci := 9) C hml hS (m_AL_get l X σ Ld dmd dn da darr dcap hD.1 (k) ⟨by omega, by omega⟩) q315 q316 q317 q50 q318 (by decide +kernel) hD.1.1 rfl rfl hl.1 rfl (Nat.le_of_ble_eq_true rfl) dX3_gradeAt_23 ⟨Nat.le_of_ble_eq_true rfl, Nat.le_of_ble_eq_true rfl⟩ ⟨Nat.le_refl _, Nat.le_refl _⟩) hS (fun r_9 σ_11 H locs hP_10 hS => ?_)
        obtain ⟨rfl, rfl⟩ := hP_10
        have hd_12 := hD.2 (k) (by omega) (by omega)
        refine h_cast (ci := 3) C hS rfl q329 hd_12.1 dX3_gradeAt_26 ?_
        refine lv_iload_n C.1 C.2.1 dX3_gradeAt_29 rfl (lv_at hl 3 rfl) ?_
        refine tl_ci (t_U (n := 1) (ci := 3) (K := RX5) C hml hS (m_has l X σ (da (k)) (dF (k)) (dT (k)) (dG (k)) (z) (by omega) hd_12.1) q330 q331 q333 q334 q69 q335 rfl (by decide +kernel) hd_12.1 rfl rfl hl.1 rfl (Nat.le_of_ble_eq_true rfl) dX3_gradeAt_30 ⟨Nat.le_of_ble_eq_true rfl, Nat.le_of_ble_eq_true rfl⟩ ⟨Nat.le_refl _, Nat.le_refl _⟩) hS (fun r_13 σ_15 H locs hP_14 hS => ?_)
        obtain ⟨rfl, rfl⟩ := hP_14
        refine ti_tb_eq (tgt := 55) C.1 C.2.1 dX3_gradeAt_33 (by decide) (fun hc_16 => ?_) (fun hc_16 => ?_)
        · skip
          refine ti_iinc (lv' := [(3, .int (iI ((k + 1)))), (2, .int (iI (ws))), (0, .ref (b)), (1, .int (iI (z)))]) C.1 C.2.1 dX3_gradeAt_55 hl (k := 0) rfl (by decide) rfl (fun ls hl => ?_)
          refine lv_goto (tgt := 7) C.1 C.2.1 dX3_gradeAt_58 (by decide) ?_
          exact ih_3 (ws) ((k + 1)) ⟨by omega, by omega, by rw [show (k + 1).toNat = k.toNat + 1 by omega]; unfold gAt; rw [Int.toNat_of_nonneg hk0]; first | (rw [if_pos (by assumption)]; rw [hws]) | (rw [if_neg (by assumption)]; exact hws), by omega, by omega⟩ (by omega) _ _ _ hS (lv_sub hl [0, 1, 2, 3] rfl)
        · skip
          refine lv_iload_n C.1 C.2.1 dX3_gradeAt_36 rfl (lv_at hl 1 rfl) ?_
          refine lv_aload_n C.1 C.2.1 dX3_gradeAt_37 rfl (lv_at hl 2 rfl) ?_
          refine gf_X3_12_1 C hS hb rfl dX3_gradeAt_38 ?_
          refine lv_iload_n C.1 C.2.1 dX3_gradeAt_41 rfl (lv_at hl 0 rfl) ?_
          refine tl_cq (t_V (n := 1) (ci := 9) C hml hS (m_AL_get l X σ Ld dmd dn da darr dcap hD.1 (k) ⟨by omega, by omega⟩) q315 q316 q317 q50 q318 (by decide +kernel) hD.1.1 rfl rfl hl.1 rfl (Nat.le_of_ble_eq_true rfl) dX3_gradeAt_42 ⟨Nat.le_of_ble_eq_true rfl, Nat.le_of_ble_eq_true rfl⟩ ⟨Nat.le_refl _, Nat.le_refl _⟩) hS (fun r_17 σ_19 H locs hP_18 hS => ?_)
          obtain ⟨rfl, rfl⟩ := hP_18
          have hd_20 := hD.2 (k) (by omega) (by omega)
          refine h_cast (ci := 3) C hS rfl q329 hd_20.1 dX3_gradeAt_45 ?_
          refine gf_X3_45_3 C hS hd_20.1 rfl dX3_gradeAt_48 ?_
          refine ti_max C hml hl.1 q336 ⟨by omega, by omega⟩ ⟨by omega, by omega⟩ dX3_gradeAt_51 (by show 1 ≤ 4; decide) (by show 40 ≤ 40 * 4; decide) (Nat.le_of_ble_eq_true rfl) (Nat.le_refl _) (Nat.le_refl _) ?_
          refine lv_istore_n (lv' := [(2, .int (iI ((max (ws) (dG (k)))))), (3, .int (iI (k))), (0, .ref (b)), (1, .int (iI (z)))]) C.1 C.2.1 dX3_gradeAt_54 rfl hl (by decide) rfl (fun ls hl => ?_)
          refine ti_iinc (lv' := [(3, .int (iI ((k + 1)))), (2, .int (iI ((max (ws) (dG (k)))))), (0, .ref (b)), (1, .int (iI (z)))]) C.1 C.2.1 dX3_gradeAt_55 hl (k := 1) rfl (by decide) rfl (fun ls hl => ?_)
          refine lv_goto (tgt := 7) C.1 C.2.1 dX3_gradeAt_58 (by decide) ?_
          exact ih_3 ((max (ws) (dG (k)))) ((k + 1)) ⟨by omega, by omega, by rw [show (k + 1).toNat = k.toNat + 1 by omega]; unfold gAt; rw [Int.toNat_of_nonneg hk0]; first | (rw [if_pos (by assumption)]; rw [hws]) | (rw [if_neg (by assumption)]; exact hws), by omega, by omega⟩ (by omega) _ _ _ hS (lv_sub hl [0, 1, 2, 3] rfl)
  exact loop_1 (((dn - (0) : Int)).toNat + 1) (gr) (0) ⟨by omega, by omega, rfl, hgr.1, hgr.2⟩ (by omega) _ _ _ hS (lv_sub hl [0, 1, 2, 3] rfl)

theorem gf_X3_52_6 {p : Program} {l : Launch} {e : Env} {R : Room} {s : State} {m : MethodId} {args : Array Value} {below : List Frame} {meth : Method} {c : Code} {H : Heap} {locs : List Loc} {cells slots : Nat} {Q : State → Prop} {cc : ByteArray} {pc : Nat} {ls : Array Slot} {rest : List Value} {X : tl_X} {σ : tl_H} {a : Nat} {fs : List Value} {v : Value} (C : tl_C X p s m args c cc RX3) (hS : tl_S X s σ H locs) (he : σ a = some (oO 6 fs)) (hv : fs[0]? = some v) (hdg : decode cc pc = .ok (.getfield 52, 3)) (kk : W p l e R s m args below meth c H locs cells slots Q (F0 m (pc + 3) ls (v :: rest))) : W p l e R s m args below meth c H locs cells slots Q (F0 m pc ls (.ref a :: rest)) :=
  h_get (ref := "TimberList$Piece") C hS in_X8 rfl 0 (by decide) q348 (fun x h => u_same (C.2.2.2.1 _ q347) x h) he hv hdg kk
theorem gf_X3_57_6 {p : Program} {l : Launch} {e : Env} {R : Room} {s : State} {m : MethodId} {args : Array Value} {below : List Frame} {meth : Method} {c : Code} {H : Heap} {locs : List Loc} {cells slots : Nat} {Q : State → Prop} {cc : ByteArray} {pc : Nat} {ls : Array Slot} {rest : List Value} {X : tl_X} {σ : tl_H} {a : Nat} {fs : List Value} {v : Value} (C : tl_C X p s m args c cc RX3) (hS : tl_S X s σ H locs) (he : σ a = some (oO 6 fs)) (hv : fs[1]? = some v) (hdg : decode cc pc = .ok (.getfield 57, 3)) (kk : W p l e R s m args below meth c H locs cells slots Q (F0 m (pc + 3) ls (v :: rest))) : W p l e R s m args below meth c H locs cells slots Q (F0 m pc ls (.ref a :: rest)) :=
  h_get (ref := "TimberList$Piece") C hS in_X8 rfl 1 (by decide) q353 (fun x h => u_same (C.2.2.2.1 _ q352) x h) he hv hdg kk
theorem gf_X3_21_1 {p : Program} {l : Launch} {e : Env} {R : Room} {s : State} {m : MethodId} {args : Array Value} {below : List Frame} {meth : Method} {c : Code} {H : Heap} {locs : List Loc} {cells slots : Nat} {Q : State → Prop} {cc : ByteArray} {pc : Nat} {ls : Array Slot} {rest : List Value} {X : tl_X} {σ : tl_H} {a : Nat} {fs : List Value} {v : Value} (C : tl_C X p s m args c cc RX3) (hS : tl_S X s σ H locs) (he : σ a = some (oO 1 fs)) (hv : fs[0]? = some v) (hdg : decode cc pc = .ok (.getfield 21, 3)) (kk : W p l e R s m args below meth c H locs cells slots Q (F0 m (pc + 3) ls (v :: rest))) : W p l e R s m args below meth c H locs cells slots Q (F0 m pc ls (.ref a :: rest)) :=
  h_get (ref := "TimberList$Board") C hS in_X3 rfl 0 (by decide) q1371 (fun _ h => h) he hv hdg kk
theorem gf_X3_60_6 {p : Program} {l : Launch} {e : Env} {R : Room} {s : State} {m : MethodId} {args : Array Value} {below : List Frame} {meth : Method} {c : Code} {H : Heap} {locs : List Loc} {cells slots : Nat} {Q : State → Prop} {cc : ByteArray} {pc : Nat} {ls : Array Slot} {rest : List Value} {X : tl_X} {σ : tl_H} {a : Nat} {fs : List Value} {v : Value} (C : tl_C X p s m args c cc RX3) (hS : tl_S X s σ H locs) (he : σ a = some (oO 6 fs)) (hv : fs[2]? = some v) (hdg : decode cc pc = .ok (.getfield 60, 3)) (kk : W p l e R s m args below meth c H locs cells slots Q (F0 m (pc + 3) ls (v :: rest))) : W p l e R s m args below meth c H locs cells slots Q (F0 m pc ls (.ref a :: rest)) :=
  h_get (ref := "TimberList$Piece") C hS in_X8 rfl 2 (by decide) q887 (fun _ h => h) he hv hdg kk
theorem gf_X3_64_4 {p : Program} {l : Launch} {e : Env} {R : Room} {s : State} {m : MethodId} {args : Array Value} {below : List Frame} {meth : Method} {c : Code} {H : Heap} {locs : List Loc} {cells slots : Nat} {Q : State → Prop} {cc : ByteArray} {pc : Nat} {ls : Array Slot} {rest : List Value} {X : tl_X} {σ : tl_H} {a : Nat} {fs : List Value} {v : Value} (C : tl_C X p s m args c cc RX3) (hS : tl_S X s σ H locs) (he : σ a = some (oO 4 fs)) (hv : fs[2]? = some v) (hdg : decode cc pc = .ok (.getfield 64, 3)) (kk : W p l e R s m args below meth c H locs cells slots Q (F0 m (pc + 3) ls (v :: rest))) : W p l e R s m args below meth c H locs cells slots Q (F0 m pc ls (.ref a :: rest)) :=
  h_get (ref := "TimberList$Part") C hS in_X6 rfl 2 (by decide) q1464 (fun _ h => h) he hv hdg kk
theorem gf_X3_25_1 {p : Program} {l : Launch} {e : Env} {R : Room} {s : State} {m : MethodId} {args : Array Value} {below : List Frame} {meth : Method} {c : Code} {H : Heap} {locs : List Loc} {cells slots : Nat} {Q : State → Prop} {cc : ByteArray} {pc : Nat} {ls : Array Slot} {rest : List Value} {X : tl_X} {σ : tl_H} {a : Nat} {fs : List Value} {v : Value} (C : tl_C X p s m args c cc RX3) (hS : tl_S X s σ H locs) (he : σ a = some (oO 1 fs)) (hv : fs[1]? = some v) (hdg : decode cc pc = .ok (.getfield 25, 3)) (kk : W p l e R s m args below meth c H locs cells slots Q (F0 m (pc + 3) ls (v :: rest))) : W p l e R s m args below meth c H locs cells slots Q (F0 m pc ls (.ref a :: rest)) :=
  h_get (ref := "TimberList$Board") C hS in_X3 rfl 1 (by decide) q1374 (fun _ h => h) he hv hdg kk
theorem gf_X3_67_4 {p : Program} {l : Launch} {e : Env} {R : Room} {s : State} {m : MethodId} {args : Array Value} {below : List Frame} {meth : Method} {c : Code} {H : Heap} {locs : List Loc} {cells slots : Nat} {Q : State → Prop} {cc : ByteArray} {pc : Nat} {ls : Array Slot} {rest : List Value} {X : tl_X} {σ : tl_H} {a : Nat} {fs : List Value} {v : Value} (C : tl_C X p s m args c cc RX3) (hS : tl_S X s σ H locs) (he : σ a = some (oO 4 fs)) (hv : fs[3]? = some v) (hdg : decode cc pc = .ok (.getfield 67, 3)) (kk : W p l e R s m args below meth c H locs cells slots Q (F0 m (pc + 3) ls (v :: rest))) : W p l e R s m args below meth c H locs cells slots Q (F0 m pc ls (.ref a :: rest)) :=
  h_get (ref := "TimberList$Part") C hS in_X6 rfl 3 (by decide) q1468 (fun _ h => h) he hv hdg kk
theorem gf_X3_18_1 {p : Program} {l : Launch} {e : Env} {R : Room} {s : State} {m : MethodId} {args : Array Value} {below : List Frame} {meth : Method} {c : Code} {H : Heap} {locs : List Loc} {cells slots : Nat} {Q : State → Prop} {cc : ByteArray} {pc : Nat} {ls : Array Slot} {rest : List Value} {X : tl_X} {σ : tl_H} {a : Nat} {fs : List Value} {v : Value} (C : tl_C X p s m args c cc RX3) (hS : tl_S X s σ H locs) (he : σ a = some (oO 1 fs)) (hv : fs[4]? = some v) (hdg : decode cc pc = .ok (.getfield 18, 3)) (kk : W p l e R s m args below meth c H locs cells slots Q (F0 m (pc + 3) ls (v :: rest))) : W p l e R s m args below meth c H locs cells slots Q (F0 m pc ls (.ref a :: rest)) :=
  h_get (ref := "TimberList$Board") C hS in_X3 rfl 4 (by decide) q1379 (fun _ h => h) he hv hdg kk
set_option maxHeartbeats 4000000 in
theorem m_isPossible (l : Launch) (X : tl_X) (σ : tl_H) (b : Nat) (ln wd gr : Int) (Ld Lp : Nat) (hb : σ b = some (cB ln wd gr Ld Lp)) (hgr : iS gr) (dn dmd : Int) (da : Int → Nat) (darr dcap : Nat) (dF dT dG : Int → Int) (hD : DL X σ Ld dmd dn da darr dcap dF dT dG) (pn pmd : Int) (pe : Int → Nat) (parr pcap : Nat) (pF pT : Int → Int) (pP : Int → Nat) (pJ : Int → Int) (hP : PL X σ Lp pmd pn pe parr pcap pF pT pP pJ) (hwl : iS ln ∧ iS wd) (c0 pt : Nat) (f t j qn ql qw qg qj qc sw : Int) (hc0 : σ c0 = some (cPi f t pt j)) (hpt : σ pt = some (cPa qn ql qw qg qj qc)) (hft : iS f ∧ iS t ∧ iS qw ∧ iS qg ∧ iS sw) : tl_Met l X yX3_isPossible cX3_isPossible 4 ((Option.some FieldType.boolean)) 4 (0) (0) [.ref (b), .ref (c0), .int (iI (sw))] σ (tl_Qi X (fun r σ' => r = iI (tb (decide (0 ≤ f ∧ t ≤ ln ∧ qw ≤ wd ∧ gr ≤ qg ∧ noD dF dT dG f t qg dn.toNat = true ∧ noP pF pT f t sw pn.toNat = true))) ∧ σ = σ')) := by
  have hdn := hD.1.2.2
  have hpn := hP.1.2.2
  refine tl_start (by decide) (Nat.le_of_ble_eq_true rfl) (fun p e s m below meth c ls C hr hml hlk hnm hS hl => ?_)
  have hl : lv_has ls 4 [(0, .ref (b)), (1, .ref (c0)), (2, .int (iI (sw)))] := hl
  refine lv_aload_n C.1 C.2.1 dX3_isPossible_0 rfl (lv_at hl 1 rfl) ?_
  refine gf_X3_52_6 C hS hc0 rfl dX3_isPossible_1 ?_
  refine ti_if_lt (tgt := 46) C.1 C.2.1 dX3_isPossible_4 (by decide) ⟨by omega, by omega⟩ (fun hc_1 => ?_) (fun hc_1 => ?_)
  · skip
    refine ti_const C.1 C.2.1 dX3_isPossible_46 ?_
    exact r_z (z := 0) C hr hlk hS (by first | exact tb01 _ | omega | decide) ⟨congrArg iI (tb_f (fun ⟨_, _, _, _, _, _⟩ => by omega)).symm, rfl⟩ dX3_isPossible_47
  · skip
    refine lv_aload_n C.1 C.2.1 dX3_isPossible_7 rfl (lv_at hl 1 rfl) ?_
    refine gf_X3_57_6 C hS hc0 rfl dX3_isPossible_8 ?_
    refine lv_aload_n C.1 C.2.1 dX3_isPossible_11 rfl (lv_at hl 0 rfl) ?_
    refine gf_X3_21_1 C hS hb rfl dX3_isPossible_12 ?_
    refine ti_icmp_gt (tgt := 46) C.1 C.2.1 dX3_isPossible_15 (by decide) ⟨by omega, by omega⟩ ⟨by omega, by omega⟩ (fun hc_2 => ?_) (fun hc_2 => ?_)
    · skip
      refine ti_const C.1 C.2.1 dX3_isPossible_46 ?_
      exact r_z (z := 0) C hr hlk hS (by first | exact tb01 _ | omega | decide) ⟨congrArg iI (tb_f (fun ⟨_, _, _, _, _, _⟩ => by omega)).symm, rfl⟩ dX3_isPossible_47
    · skip
      refine lv_aload_n C.1 C.2.1 dX3_isPossible_18 rfl (lv_at hl 1 rfl) ?_
      refine gf_X3_60_6 C hS hc0 rfl dX3_isPossible_19 ?_
      refine gf_X3_64_4 C hS hpt rfl dX3_isPossible_22 ?_
      refine lv_aload_n C.1 C.2.1 dX3_isPossible_25 rfl (lv_at hl 0 rfl) ?_
      refine gf_X3_25_1 C hS hb rfl dX3_isPossible_26 ?_
      refine ti_icmp_gt (tgt := 46) C.1 C.2.1 dX3_isPossible_29 (by decide) ⟨by omega, by omega⟩ ⟨by omega, by omega⟩ (fun hc_3 => ?_) (fun hc_3 => ?_)
      · skip
        refine ti_const C.1 C.2.1 dX3_isPossible_46 ?_
        exact r_z (z := 0) C hr hlk hS (by first | exact tb01 _ | omega | decide) ⟨congrArg iI (tb_f (fun ⟨_, _, _, _, _, _⟩ => by omega)).symm, rfl⟩ dX3_isPossible_47
      · skip
        refine lv_aload_n C.1 C.2.1 dX3_isPossible_32 rfl (lv_at hl 0 rfl) ?_
        refine gf_X3_28_1 C hS hb rfl dX3_isPossible_33 ?_
        refine lv_aload_n C.1 C.2.1 dX3_isPossible_36 rfl (lv_at hl 1 rfl) ?_
        refine gf_X3_60_6 C hS hc0 rfl dX3_isPossible_37 ?_
        refine gf_X3_67_4 C hS hpt rfl dX3_isPossible_40 ?_
        refine ti_icmp_le (tgt := 48) C.1 C.2.1 dX3_isPossible_43 (by decide) ⟨by omega, by omega⟩ ⟨by omega, by omega⟩ (fun hc_4 => ?_) (fun hc_4 => ?_)
        · skip
          refine ti_const C.1 C.2.1 dX3_isPossible_48 ?_
          refine lv_istore_n (lv' := [(3, .int (iI (0))), (0, .ref (b)), (1, .ref (c0)), (2, .int (iI (sw)))]) C.1 C.2.1 dX3_isPossible_49 rfl hl (by decide) rfl (fun ls hl => ?_)
          have loop_5 : ∀ (n_6 : Nat) (k : Int), 0 ≤ k ∧ k ≤ dn ∧ noD dF dT dG f t qg k.toNat = true → dn - k < (n_6 : Int) → ∀ (H : Heap) (locs : List Loc) (ls : Array Slot), tl_S X s σ H locs → lv_has ls 4 [(3, .int (iI (k))), (0, .ref (b)), (1, .ref (c0)), (2, .int (iI (sw)))] → W p l e (tl_rm 4 (0) (0)) s m ([.ref (b), .ref (c0), .int (iI (sw))] : List Value).toArray below meth c H locs (0) (0) (MQ below (tl_Qi X (fun r σ' => r = iI (tb (decide (0 ≤ f ∧ t ≤ ln ∧ qw ≤ wd ∧ gr ≤ qg ∧ noD dF dT dG f t qg dn.toNat = true ∧ noP pF pT f t sw pn.toNat = true))) ∧ σ = σ')) ([.ref (b), .ref (c0), .int (iI (sw))] : List Value).toArray s (0) (0) (tl_A X)) (F0 m 50 ls []) := by
            intro n_6
            induction n_6 with
            | zero => intro k hinv hms; omega
            | succ n_6 ih_7 =>
              intro k hinv hms_8  H locs ls hS hl
              obtain ⟨hk0, hkn, hnd⟩ := hinv
              refine lv_iload_n C.1 C.2.1 dX3_isPossible_50 rfl (lv_at hl 0 rfl) ?_
              refine lv_aload_n C.1 C.2.1 dX3_isPossible_51 rfl (lv_at hl 1 rfl) ?_
              refine gf_X3_12_1 C hS hb rfl dX3_isPossible_52 ?_
              refine tl_ci (t_V (n := 0) (ci := 9) C hml hS (m_AL_size l X σ Ld dmd dn da darr dcap hD.1) q311 q312 q313 q50 q314 (by decide +kernel) hD.1.1 rfl rfl hl.1 rfl (Nat.le_of_ble_eq_true rfl) dX3_isPossible_55 ⟨Nat.le_of_ble_eq_true rfl, Nat.le_of_ble_eq_true rfl⟩ ⟨Nat.le_refl _, Nat.le_refl _⟩) hS (fun r_9 σ_11 H locs hP_10 hS => ?_)
              obtain ⟨rfl, rfl⟩ := hP_10
              refine ti_icmp_ge (tgt := 87) C.1 C.2.1 dX3_isPossible_58 (by decide) ⟨by omega, by omega⟩ ⟨by omega, by omega⟩ (fun hc_12 => ?_) (fun hc_12 => ?_)
              · skip
                have hkd : k = dn := by omega
                rw [hkd] at hnd
                refine ti_const C.1 C.2.1 dX3_isPossible_87 ?_
                refine lv_istore_n (lv' := [(3, .int (iI (0))), (0, .ref (b)), (1, .ref (c0)), (2, .int (iI (sw)))]) C.1 C.2.1 dX3_isPossible_88 rfl hl (by decide) rfl (fun ls hl => ?_)
                have loop_13 : ∀ (n_14 : Nat) (k : Int), 0 ≤ k ∧ k ≤ pn ∧ noP pF pT f t sw k.toNat = true → pn - k < (n_14 : Int) → ∀ (H : Heap) (locs : List Loc) (ls : Array Slot), tl_S X s σ H locs → lv_has ls 4 [(3, .int (iI (k))), (0, .ref (b)), (1, .ref (c0)), (2, .int (iI (sw)))] → W p l e (tl_rm 4 (0) (0)) s m ([.ref (b), .ref (c0), .int (iI (sw))] : List Value).toArray below meth c H locs (0) (0) (MQ below (tl_Qi X (fun r σ' => r = iI (tb (decide (0 ≤ f ∧ t ≤ ln ∧ qw ≤ wd ∧ gr ≤ qg ∧ noD dF dT dG f t qg dn.toNat = true ∧ noP pF pT f t sw pn.toNat = true))) ∧ σ = σ')) ([.ref (b), .ref (c0), .int (iI (sw))] : List Value).toArray s (0) (0) (tl_A X)) (F0 m 89 ls []) := by
                  intro n_14
                  induction n_14 with
                  | zero => intro k hinv hms; omega
                  | succ n_14 ih_15 =>
                    intro k hinv hms_16  H locs ls hS hl
                    obtain ⟨hk0, hkn, hnp⟩ := hinv
                    refine lv_iload_n C.1 C.2.1 dX3_isPossible_89 rfl (lv_at hl 0 rfl) ?_
                    refine lv_aload_n C.1 C.2.1 dX3_isPossible_90 rfl (lv_at hl 1 rfl) ?_
                    refine gf_X3_18_1 C hS hb rfl dX3_isPossible_91 ?_
                    refine tl_ci (t_V (n := 0) (ci := 9) C hml hS (m_AL_size l X σ Lp pmd pn pe parr pcap hP.1) q311 q312 q313 q50 q314 (by decide +kernel) hP.1.1 rfl rfl hl.1 rfl (Nat.le_of_ble_eq_true rfl) dX3_isPossible_94 ⟨Nat.le_of_ble_eq_true rfl, Nat.le_of_ble_eq_true rfl⟩ ⟨Nat.le_refl _, Nat.le_refl _⟩) hS (fun r_17 σ_19 H locs hP_18 hS => ?_)
                    obtain ⟨rfl, rfl⟩ := hP_18
                    refine ti_icmp_ge (tgt := 127) C.1 C.2.1 dX3_isPossible_97 (by decide) ⟨by omega, by omega⟩ ⟨by omega, by omega⟩ (fun hc_20 => ?_) (fun hc_20 => ?_)
                    · skip
                      refine ti_const C.1 C.2.1 dX3_isPossible_127 ?_
                      exact r_z (z := 1) C hr hlk hS (by first | exact tb01 _ | omega | decide) ⟨congrArg iI (tb_t ⟨by omega, by omega, by omega, by omega, hnd, by rw [← show k = pn by omega]; exact hnp⟩).symm, rfl⟩ dX3_isPossible_128
                    · skip
                      refine lv_aload_n C.1 C.2.1 dX3_isPossible_100 rfl (lv_at hl 1 rfl) ?_
                      refine gf_X3_18_1 C hS hb rfl dX3_isPossible_101 ?_
                      refine lv_iload_n C.1 C.2.1 dX3_isPossible_104 rfl (lv_at hl 0 rfl) ?_
                      refine tl_cq (t_V (n := 1) (ci := 9) C hml hS (m_AL_get l X σ Lp pmd pn pe parr pcap hP.1 (k) ⟨by omega, by omega⟩) q315 q316 q317 q50 q318 (by decide +kernel) hP.1.1 rfl rfl hl.1 rfl (Nat.le_of_ble_eq_true rfl) dX3_isPossible_105 ⟨Nat.le_of_ble_eq_true rfl, Nat.le_of_ble_eq_true rfl⟩ ⟨Nat.le_refl _, Nat.le_refl _⟩) hS (fun r_21 σ_23 H locs hP_22 hS => ?_)
                      obtain ⟨rfl, rfl⟩ := hP_22
                      have hd_24 := hP.2 (k) (by omega) (by omega)
                      refine h_cast (ci := 6) C hS rfl q803 hd_24.1 dX3_isPossible_108 ?_
                      refine lv_aload_n C.1 C.2.1 dX3_isPossible_111 rfl (lv_at hl 2 rfl) ?_
                      refine lv_iload_n C.1 C.2.1 dX3_isPossible_112 rfl (lv_at hl 3 rfl) ?_
                      refine tl_ci (t_U (n := 2) (ci := 6) (K := RX8) C hml hS (m_isNear_pp l X σ (pe (k)) c0 (pF (k)) (pT (k)) (pP (k)) (pJ (k)) f t pt j sw (by omega) hd_24.1 hc0) q911 q906 q908 q909 q69 q910 rfl (by decide +kernel) hd_24.1 rfl rfl hl.1 rfl (Nat.le_of_ble_eq_true rfl) dX3_isPossible_113 ⟨Nat.le_of_ble_eq_true rfl, Nat.le_of_ble_eq_true rfl⟩ ⟨Nat.le_refl _, Nat.le_refl _⟩) hS (fun r_25 σ_27 H locs hP_26 hS => ?_)
                      obtain ⟨rfl, rfl⟩ := hP_26
                      refine ti_tb_eq (tgt := 121) C.1 C.2.1 dX3_isPossible_116 (by decide) (fun hc_28 => ?_) (fun hc_28 => ?_)
                      · skip
                        refine ti_iinc (lv' := [(3, .int (iI ((k + 1)))), (0, .ref (b)), (1, .ref (c0)), (2, .int (iI (sw)))]) C.1 C.2.1 dX3_isPossible_121 hl (k := 0) rfl (by decide) rfl (fun ls hl => ?_)
                        refine lv_goto (tgt := 89) C.1 C.2.1 dX3_isPossible_124 (by decide) ?_
                        exact ih_15 ((k + 1)) ⟨by omega, by omega, by rw [show (k + 1).toNat = k.toNat + 1 by omega]; unfold noP; rw [Int.toNat_of_nonneg hk0, hnp, decide_eq_false (by assumption)]; rfl⟩ (by omega) _ _ _ hS (lv_sub hl [0, 1, 2, 3] rfl)
                      · skip
                        have hno : noP pF pT f t sw pn.toNat = false := noP_false (k := (k + 1).toNat) (by rw [show (k + 1).toNat = k.toNat + 1 by omega]; unfold noP; rw [Int.toNat_of_nonneg hk0, decide_eq_true (by assumption)]; simp) (by omega)
                        refine ti_const C.1 C.2.1 dX3_isPossible_119 ?_
                        exact r_z (z := 0) C hr hlk hS (by first | exact tb01 _ | omega | decide) ⟨congrArg iI (tb_f (fun ⟨_, _, _, _, u1, u2⟩ => by first | (rw [hno] at u1; cases u1) | (rw [hno] at u2; cases u2))).symm, rfl⟩ dX3_isPossible_120
                exact loop_13 (((pn - (0) : Int)).toNat + 1) (0) ⟨by omega, by omega, rfl⟩ (by omega) _ _ _ hS (lv_sub hl [0, 1, 2, 3] rfl)
              · skip
                refine lv_aload_n C.1 C.2.1 dX3_isPossible_61 rfl (lv_at hl 2 rfl) ?_
                refine lv_aload_n C.1 C.2.1 dX3_isPossible_62 rfl (lv_at hl 1 rfl) ?_
                refine gf_X3_12_1 C hS hb rfl dX3_isPossible_63 ?_
                refine lv_iload_n C.1 C.2.1 dX3_isPossible_66 rfl (lv_at hl 0 rfl) ?_
                refine tl_cq (t_V (n := 1) (ci := 9) C hml hS (m_AL_get l X σ Ld dmd dn da darr dcap hD.1 (k) ⟨by omega, by omega⟩) q315 q316 q317 q50 q318 (by decide +kernel) hD.1.1 rfl rfl hl.1 rfl (Nat.le_of_ble_eq_true rfl) dX3_isPossible_67 ⟨Nat.le_of_ble_eq_true rfl, Nat.le_of_ble_eq_true rfl⟩ ⟨Nat.le_refl _, Nat.le_refl _⟩) hS (fun r_29 σ_31 H locs hP_30 hS => ?_)
                obtain ⟨rfl, rfl⟩ := hP_30
                have hd_32 := hD.2 (k) (by omega) (by omega)
                refine h_cast (ci := 3) C hS rfl q329 hd_32.1 dX3_isPossible_70 ?_
                refine tl_ci (t_V (n := 1) (ci := 6) C hml hS (m_isSpoiled l X σ c0 (da (k)) f t pt j qn ql qw qg qj qc (dF (k)) (dT (k)) (dG (k)) (by omega) hc0 hpt hd_32.1) q901 q902 q903 q77 q904 (by decide +kernel) hc0 rfl rfl hl.1 rfl (Nat.le_of_ble_eq_true rfl) dX3_isPossible_73 ⟨Nat.le_of_ble_eq_true rfl, Nat.le_of_ble_eq_true rfl⟩ ⟨Nat.le_refl _, Nat.le_refl _⟩) hS (fun r_33 σ_35 H locs hP_34 hS => ?_)
                obtain ⟨rfl, rfl⟩ := hP_34
                refine ti_tb_eq (tgt := 81) C.1 C.2.1 dX3_isPossible_76 (by decide) (fun hc_36 => ?_) (fun hc_36 => ?_)
                · skip
                  refine ti_iinc (lv' := [(3, .int (iI ((k + 1)))), (0, .ref (b)), (1, .ref (c0)), (2, .int (iI (sw)))]) C.1 C.2.1 dX3_isPossible_81 hl (k := 0) rfl (by decide) rfl (fun ls hl => ?_)
                  refine lv_goto (tgt := 50) C.1 C.2.1 dX3_isPossible_84 (by decide) ?_
                  exact ih_7 ((k + 1)) ⟨by omega, by omega, by rw [show (k + 1).toNat = k.toNat + 1 by omega]; unfold noD; rw [Int.toNat_of_nonneg hk0, hnd, decide_eq_false (by assumption)]; rfl⟩ (by omega) _ _ _ hS (lv_sub hl [0, 1, 2, 3] rfl)
                · skip
                  have hno : noD dF dT dG f t qg dn.toNat = false := noD_false (k := (k + 1).toNat) (by rw [show (k + 1).toNat = k.toNat + 1 by omega]; unfold noD; rw [Int.toNat_of_nonneg hk0, decide_eq_true (by assumption)]; simp) (by omega)
                  refine ti_const C.1 C.2.1 dX3_isPossible_79 ?_
                  exact r_z (z := 0) C hr hlk hS (by first | exact tb01 _ | omega | decide) ⟨congrArg iI (tb_f (fun ⟨_, _, _, _, u1, u2⟩ => by first | (rw [hno] at u1; cases u1) | (rw [hno] at u2; cases u2))).symm, rfl⟩ dX3_isPossible_80
          exact loop_5 (((dn - (0) : Int)).toNat + 1) (0) ⟨by omega, by omega, rfl⟩ (by omega) _ _ _ hS (lv_sub hl [0, 1, 2, 3] rfl)
        · skip
          refine ti_const C.1 C.2.1 dX3_isPossible_46 ?_
          exact r_z (z := 0) C hr hlk hS (by first | exact tb01 _ | omega | decide) ⟨congrArg iI (tb_f (fun ⟨_, _, _, _, _, _⟩ => by omega)).symm, rfl⟩ dX3_isPossible_47

set_option maxHeartbeats 4000000 in
theorem m_Bo_add (l : Launch) (X : tl_X) (σ : tl_H) (b : Nat) (ln wd gr : Int) (Ld Lp : Nat) (hb : σ b = some (cB ln wd gr Ld Lp)) (hgr : iS gr) (pn pmd : Int) (pe : Int → Nat) (parr pcap : Nat) (pF pT : Int → Int) (pP : Int → Nat) (pJ : Int → Int) (hP : PL X σ Lp pmd pn pe parr pcap pF pT pP pJ) (v pt : Nat) (f t j : Int) (hv : σ v = some (cPi f t pt j)) (hf : iS f) (hpn6 : pn ≤ 600) : tl_Met l X yX3_add cX3_add 3 ((Option.none : Option FieldType)) 7 (1) (1000) [.ref (b), .ref (v)] σ (tl_Qv X (fun σ' => ∃ (k : Int) (arr' cap' : Nat), 0 ≤ k ∧ k ≤ pn ∧ (∀ i : Int, 0 ≤ i → i < k → pF i < f) ∧ (k < pn → f ≤ pF k) ∧ AL X σ' Lp (pmd + 1) (pn + 1) (fun i => if i < k then pe i else if i = k then v else pe (i - 1)) arr' cap' ∧ ALF X σ σ' Lp parr arr')) := by
  have hpn := hP.1.2.2
  refine tl_start (by decide) (Nat.le_of_ble_eq_true rfl) (fun p e s m below meth c ls C hr hml hlk hnm hS hl => ?_)
  have hl : lv_has ls 3 [(0, .ref (b)), (1, .ref (v))] := hl
  refine ti_const C.1 C.2.1 dX3_add_0 ?_
  refine lv_istore_n (lv' := [(2, .int (iI (0))), (0, .ref (b)), (1, .ref (v))]) C.1 C.2.1 dX3_add_1 rfl hl (by decide) rfl (fun ls hl => ?_)
  have loop_1 : ∀ (n_2 : Nat) (k : Int), 0 ≤ k ∧ k ≤ pn ∧ (∀ i : Int, 0 ≤ i → i < k → pF i < f) → pn - k < (n_2 : Int) → ∀ (H : Heap) (locs : List Loc) (ls : Array Slot), tl_S X s σ H locs → lv_has ls 3 [(2, .int (iI (k))), (0, .ref (b)), (1, .ref (v))] → W p l e (tl_rm 7 (1) (1000)) s m ([.ref (b), .ref (v)] : List Value).toArray below meth c H locs (0) (0) (MQ below (tl_Qv X (fun σ' => ∃ (k : Int) (arr' cap' : Nat), 0 ≤ k ∧ k ≤ pn ∧ (∀ i : Int, 0 ≤ i → i < k → pF i < f) ∧ (k < pn → f ≤ pF k) ∧ AL X σ' Lp (pmd + 1) (pn + 1) (fun i => if i < k then pe i else if i = k then v else pe (i - 1)) arr' cap' ∧ ALF X σ σ' Lp parr arr')) ([.ref (b), .ref (v)] : List Value).toArray s (1) (1000) (tl_A X)) (F0 m 2 ls []) := by
    intro n_2
    induction n_2 with
    | zero => intro k hinv hms; omega
    | succ n_2 ih_3 =>
      intro k hinv hms_4  H locs ls hS hl
      obtain ⟨hk0, hkn, hall⟩ := hinv
      refine lv_iload_n C.1 C.2.1 dX3_add_2 rfl (lv_at hl 0 rfl) ?_
      refine lv_aload_n C.1 C.2.1 dX3_add_3 rfl (lv_at hl 1 rfl) ?_
      refine gf_X3_18_1 C hS hb rfl dX3_add_4 ?_
      refine tl_ci (t_V (n := 0) (ci := 9) C hml hS (m_AL_size l X σ Lp pmd pn pe parr pcap hP.1) q311 q312 q313 q50 q314 (by decide +kernel) hP.1.1 rfl rfl hl.1 rfl (Nat.le_of_ble_eq_true rfl) dX3_add_7 ⟨Nat.le_of_ble_eq_true rfl, Nat.le_of_ble_eq_true rfl⟩ ⟨by show 0 + (0) ≤ 1; omega, by show 0 + (0) ≤ 1000; omega⟩) hS (fun r_5 σ_7 H locs hP_6 hS => ?_)
      obtain ⟨rfl, rfl⟩ := hP_6
      refine ti_icmp_ge (tgt := 40) C.1 C.2.1 dX3_add_10 (by decide) ⟨by omega, by omega⟩ ⟨by omega, by omega⟩ (fun hc_8 => ?_) (fun hc_8 => ?_)
      · skip
        refine lv_aload_n C.1 C.2.1 dX3_add_40 rfl (lv_at hl 1 rfl) ?_
        refine gf_X3_18_1 C hS hb rfl dX3_add_41 ?_
        refine lv_iload_n C.1 C.2.1 dX3_add_44 rfl (lv_at hl 0 rfl) ?_
        refine lv_aload_n C.1 C.2.1 dX3_add_45 rfl (lv_at hl 2 rfl) ?_
        refine tl_cv (t_V (n := 2) (ci := 9) C hml hS (m_AL_ins l X σ Lp pmd pn pe parr pcap hP.1 v ⟨6, _, _, hv, rfl, by decide +kernel⟩ (fun i h0 h1 => ⟨6, _, _, (hP.2 i h0 h1).1, rfl, by decide +kernel⟩) hpn6 k ⟨by omega, by omega⟩) q1020 q1021 q1022 q50 q1023 (by decide +kernel) hP.1.1 rfl rfl hl.1 rfl (Nat.le_of_ble_eq_true rfl) dX3_add_46 ⟨Nat.le_of_ble_eq_true rfl, Nat.le_of_ble_eq_true rfl⟩ ⟨by show 0 + (1) ≤ 1; omega, by show 0 + (1000) ≤ 1000; omega⟩) hS (fun σ_11 H locs hP_10 hS => ?_)
        obtain ⟨arr', cap', g1, g2⟩ := hP_10
        refine W.widen (k := 1) (n := 1000) (by omega) (by omega) ?_
        exact r_v C hr hlk hS ⟨k, arr', cap', by omega, by omega, hall, fun _ => by omega, g1, g2⟩ dX3_add_49
      · skip
        refine lv_aload_n C.1 C.2.1 dX3_add_13 rfl (lv_at hl 1 rfl) ?_
        refine gf_X3_18_1 C hS hb rfl dX3_add_14 ?_
        refine lv_iload_n C.1 C.2.1 dX3_add_17 rfl (lv_at hl 0 rfl) ?_
        refine tl_cq (t_V (n := 1) (ci := 9) C hml hS (m_AL_get l X σ Lp pmd pn pe parr pcap hP.1 (k) ⟨by omega, by omega⟩) q315 q316 q317 q50 q318 (by decide +kernel) hP.1.1 rfl rfl hl.1 rfl (Nat.le_of_ble_eq_true rfl) dX3_add_18 ⟨Nat.le_of_ble_eq_true rfl, Nat.le_of_ble_eq_true rfl⟩ ⟨by show 0 + (0) ≤ 1; omega, by show 0 + (0) ≤ 1000; omega⟩) hS (fun r_12 σ_14 H locs hP_13 hS => ?_)
        obtain ⟨rfl, rfl⟩ := hP_13
        have hd_15 := hP.2 (k) (by omega) (by omega)
        refine h_cast (ci := 6) C hS rfl q803 hd_15.1 dX3_add_21 ?_
        refine gf_X3_52_6 C hS hd_15.1 rfl dX3_add_24 ?_
        refine lv_aload_n C.1 C.2.1 dX3_add_27 rfl (lv_at hl 2 rfl) ?_
        refine gf_X3_52_6 C hS hv rfl dX3_add_28 ?_
        refine ti_icmp_ge (tgt := 40) C.1 C.2.1 dX3_add_31 (by decide) ⟨by omega, by omega⟩ ⟨by omega, by omega⟩ (fun hc_16 => ?_) (fun hc_16 => ?_)
        · skip
          refine lv_aload_n C.1 C.2.1 dX3_add_40 rfl (lv_at hl 1 rfl) ?_
          refine gf_X3_18_1 C hS hb rfl dX3_add_41 ?_
          refine lv_iload_n C.1 C.2.1 dX3_add_44 rfl (lv_at hl 0 rfl) ?_
          refine lv_aload_n C.1 C.2.1 dX3_add_45 rfl (lv_at hl 2 rfl) ?_
          refine tl_cv (t_V (n := 2) (ci := 9) C hml hS (m_AL_ins l X σ Lp pmd pn pe parr pcap hP.1 v ⟨6, _, _, hv, rfl, by decide +kernel⟩ (fun i h0 h1 => ⟨6, _, _, (hP.2 i h0 h1).1, rfl, by decide +kernel⟩) hpn6 k ⟨by omega, by omega⟩) q1020 q1021 q1022 q50 q1023 (by decide +kernel) hP.1.1 rfl rfl hl.1 rfl (Nat.le_of_ble_eq_true rfl) dX3_add_46 ⟨Nat.le_of_ble_eq_true rfl, Nat.le_of_ble_eq_true rfl⟩ ⟨by show 0 + (1) ≤ 1; omega, by show 0 + (1000) ≤ 1000; omega⟩) hS (fun σ_19 H locs hP_18 hS => ?_)
          obtain ⟨arr', cap', g1, g2⟩ := hP_18
          refine W.widen (k := 1) (n := 1000) (by omega) (by omega) ?_
          exact r_v C hr hlk hS ⟨k, arr', cap', by omega, by omega, hall, fun _ => by omega, g1, g2⟩ dX3_add_49
        · skip
          refine ti_iinc (lv' := [(2, .int (iI ((k + 1)))), (0, .ref (b)), (1, .ref (v))]) C.1 C.2.1 dX3_add_34 hl (k := 0) rfl (by decide) rfl (fun ls hl => ?_)
          refine lv_goto (tgt := 2) C.1 C.2.1 dX3_add_37 (by decide) ?_
          exact ih_3 ((k + 1)) ⟨by omega, by omega, fun i h0 h1 => by by_cases u : i = k; (rw [u]; omega); exact hall i h0 (by omega)⟩ (by omega) _ _ _ hS (lv_sub hl [0, 1, 2] rfl)
  exact loop_1 (((pn - (0) : Int)).toNat + 1) (0) ⟨by omega, by omega, fun i h0 h1 => by omega⟩ (by omega) _ _ _ hS (lv_sub hl [0, 1, 2] rfl)

