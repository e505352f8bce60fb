/-! THE MODEL: DIGEST, USED, ITS CONSTRUCTOR (printed by gen_model5.py) -/
set_option maxRecDepth 100000
set_option maxHeartbeats 4000000 in
theorem m2_digest (l : Launch) (X : tl_X) (σ : tl_H) (mo : Nat) (ad : Nat → Nat) (M : mS) (hM : MD X σ mo ad M) (hI : mI M)  (hln : ∀ q, 0 ≤ q → q < M.1 6 → M.2 4 (4 * q + 1) < M.2 4 (4 * q + 2)) : tl_Met l X yX2_digest cX2_digest 6 ((Option.some FieldType.long)) 4 (0) (0) [.ref (mo)] σ (tl_Ql X (fun r σ' => r = mDigest (mset M 0 0) ∧ MD X σ' mo ad (mset M 0 0) ∧ mFr σ σ')) := by
  obtain ⟨M1, eM1⟩ : ∃ z, z = mset M 0 0 := ⟨_, rfl⟩
  have hln1 : ∀ q, 0 ≤ q → q < M1.1 6 → M1.2 4 (4 * q + 1) < M1.2 4 (4 * q + 2) := by rw [eM1]; exact hln
  obtain ⟨r1, er1⟩ : ∃ z, z = lp (fun p d => dg d (M1.2 2 (4 * p + 3))) 0 (M1.1 3) (dg (dg (dg (8339 + (iI (M1.1 4)).toInt64) (M1.1 5)) (M1.1 2)) (M1.1 3)) := ⟨_, rfl⟩
  rw [← eM1]
  refine tl_start (by decide) (Nat.le_of_ble_eq_true rfl) (fun p e s m below meth c ls C hr hml hlk hnm hS hl => ?_)
  have hl : lv_has ls 6 [(0, .ref (mo))] := hl
  obtain ⟨hm, h0, h1, h2, h3, h4, h5, hd⟩ := id hM
  obtain ⟨hN, hB, hPt, hJ, hA, hWn⟩ := id hI
  have hfr : mFr σ σ := mFr.rf
  refine lv_aload_n C.1 C.2.1 dX2_digest_0 rfl (lv_at hl 0 rfl) ?_
  refine ti_const C.1 C.2.1 dX2_digest_1 ?_
  refine gp_X2_36_8 C hS hm rfl rfl (Nat.le_of_ble_eq_true rfl) dX2_digest_2 (fun H locs hS => ?_)
  obtain ⟨σ_1, eσ_1⟩ : ∃ z, z = va_up σ (mo) (some (oO 8 [.int (iI (0)), .int (iI (M.1 1)), .ref (ad 0), .int (iI (M.1 2)), .ref (ad 1), .int (iI (M.1 3)), .ref (ad 2), .ref (ad 3), .int (iI (M.1 4)), .int (iI (M.1 5)), .int (iI (M.1 6)), .ref (ad 4), .ref (ad 5), .int (iI (M.1 7)), .int (iI (M.1 8))])) := ⟨_, rfl⟩
  have hS : tl_S X s σ_1 H locs := by rw [eσ_1]; exact hS
  have he_2 : σ_1 (mo) = some (oO 8 [.int (iI (0)), .int (iI (M.1 1)), .ref (ad 0), .int (iI (M.1 2)), .ref (ad 1), .int (iI (M.1 3)), .ref (ad 2), .ref (ad 3), .int (iI (M.1 4)), .int (iI (M.1 5)), .int (iI (M.1 6)), .ref (ad 4), .ref (ad 5), .int (iI (M.1 7)), .int (iI (M.1 8))]) := by rw [eσ_1]; exact up_s
  have he_3 := up_kp eσ_1 (Ne.symm (tl_neA hm h0)) h0
  have he_4 := up_kp eσ_1 (Ne.symm (tl_neA hm h1)) h1
  have he_5 := up_kp eσ_1 (Ne.symm (tl_neA hm h2)) h2
  have he_6 := up_kp eσ_1 (Ne.symm (tl_neA hm h3)) h3
  have he_7 := up_kp eσ_1 (Ne.symm (tl_neA hm h4)) h4
  have he_8 := up_kp eσ_1 (Ne.symm (tl_neA hm h5)) h5
  have hfr := hfr.up hm mK_o eσ_1
  have hM1 : MD X σ_1 mo ad M1 := by rw [eM1]; exact ⟨he_2, he_3, he_4, he_5, he_6, he_7, he_8, hd⟩
  have hI1 : mI M1 := by rw [eM1]; exact hI.t0 0 (by decide)
  obtain ⟨hm, h0, h1, h2, h3, h4, h5, hd⟩ := id hM1
  obtain ⟨hN, hB, hPt, hJ, hA, hWn⟩ := id hI1
  refine lv_ldc2 (v := 8339) C.1 C.2.1 C.2.2.1 (C.2.2.2.1 _ q1971) dX2_digest_5 ?_
  refine lv_aload_n C.1 C.2.1 dX2_digest_8 rfl (lv_at hl 0 rfl) ?_
  refine gf_X2_23_8 C hS hm rfl dX2_digest_9 ?_
  refine lv_i2l (v := (iI (M1.1 4)).toInt64) C.1 C.2.1 dX2_digest_12 rfl ?_
  refine lv_ladd C.1 C.2.1 dX2_digest_13 ?_
  refine lv_ldc2 (v := 31) C.1 C.2.1 C.2.2.1 (C.2.2.2.1 _ q1972) dX2_digest_14 ?_
  refine lv_lmul C.1 C.2.1 dX2_digest_17 ?_
  refine lv_aload_n C.1 C.2.1 dX2_digest_18 rfl (lv_at hl 0 rfl) ?_
  refine gf_X2_27_8 C hS hm rfl dX2_digest_19 ?_
  refine lv_i2l (v := (iI (M1.1 5)).toInt64) C.1 C.2.1 dX2_digest_22 rfl ?_
  refine lv_ladd C.1 C.2.1 dX2_digest_23 ?_
  refine lv_ldc2 (v := 31) C.1 C.2.1 C.2.2.1 (C.2.2.2.1 _ q1972) dX2_digest_24 ?_
  refine lv_lmul C.1 C.2.1 dX2_digest_27 ?_
  refine lv_aload_n C.1 C.2.1 dX2_digest_28 rfl (lv_at hl 0 rfl) ?_
  refine gf_X2_60_8 C hS hm rfl dX2_digest_29 ?_
  refine lv_i2l (v := (iI (M1.1 2)).toInt64) C.1 C.2.1 dX2_digest_32 rfl ?_
  refine lv_ladd C.1 C.2.1 dX2_digest_33 ?_
  refine lv_lstore_n (lv' := [(1, .long ((((((8339 + (iI (M1.1 4)).toInt64) * 31) + (iI (M1.1 5)).toInt64) * 31) + (iI (M1.1 2)).toInt64))), (0, .ref (mo))]) C.1 C.2.1 dX2_digest_34 rfl hl (by decide) rfl (fun ls hl => ?_)
  refine lv_lload_n C.1 C.2.1 dX2_digest_35 rfl (lv_at hl 0 rfl) ?_
  refine lv_ldc2 (v := 31) C.1 C.2.1 C.2.2.1 (C.2.2.2.1 _ q1972) dX2_digest_36 ?_
  refine lv_lmul C.1 C.2.1 dX2_digest_39 ?_
  refine lv_aload_n C.1 C.2.1 dX2_digest_40 rfl (lv_at hl 1 rfl) ?_
  refine gf_X2_46_8 C hS hm rfl dX2_digest_41 ?_
  refine lv_i2l (v := (iI (M1.1 3)).toInt64) C.1 C.2.1 dX2_digest_44 rfl ?_
  refine lv_ladd C.1 C.2.1 dX2_digest_45 ?_
  refine lv_lstore_n (lv' := [(1, .long ((((((((8339 + (iI (M1.1 4)).toInt64) * 31) + (iI (M1.1 5)).toInt64) * 31) + (iI (M1.1 2)).toInt64) * 31) + (iI (M1.1 3)).toInt64))), (0, .ref (mo))]) C.1 C.2.1 dX2_digest_46 rfl hl (by decide) rfl (fun ls hl => ?_)
  refine ti_const C.1 C.2.1 dX2_digest_47 ?_
  refine lv_istore_n (lv' := [(3, .int (iI (0))), (1, .long ((((((((8339 + (iI (M1.1 4)).toInt64) * 31) + (iI (M1.1 5)).toInt64) * 31) + (iI (M1.1 2)).toInt64) * 31) + (iI (M1.1 3)).toInt64))), (0, .ref (mo))]) C.1 C.2.1 dX2_digest_48 rfl hl (by decide) rfl (fun ls hl => ?_)
  have loop_9 : ∀ (n_10 : Nat) (q : Int) (dd : Int64), (0 ≤ q ∧ q ≤ M1.1 3) ∧ lp (fun p d => dg d (M1.2 2 (4 * p + 3))) q (M1.1 3) dd = r1 → M1.1 3 - q < (n_10 : Int) → ∀ (H : Heap) (locs : List Loc) (ls : Array Slot), tl_S X s σ_1 H locs → lv_has ls 6 [(3, .int (iI (q))), (1, .long (dd)), (0, .ref (mo))] → W p l e (tl_rm 4 (0) (0)) s m ([.ref (mo)] : List Value).toArray below meth c H locs (0) (0) (MQ below (tl_Ql X (fun r σ' => r = mDigest M1 ∧ MD X σ' mo ad M1 ∧ mFr σ σ')) ([.ref (mo)] : List Value).toArray s (0) (0) (tl_A X)) (F0 m 49 ls []) := by
    intro n_10
    induction n_10 with
    | zero => intro q dd hinv hms; omega
    | succ n_10 ih_11 =>
      intro q dd hinv hms_12  H locs ls hS hl
      obtain ⟨hv, hR⟩ := hinv
      refine lv_iload_n C.1 C.2.1 dX2_digest_49 rfl (lv_at hl 0 rfl) ?_
      refine lv_aload_n C.1 C.2.1 dX2_digest_50 rfl (lv_at hl 2 rfl) ?_
      refine gf_X2_46_8 C hS hm rfl dX2_digest_51 ?_
      refine ti_icmp_ge (tgt := 77) C.1 C.2.1 dX2_digest_54 (by decide) ⟨by omega, by omega⟩ ⟨by omega, by omega⟩ (fun hc_13 => ?_) (fun hc_13 => ?_)
      · skip
        refine lv_lload_n C.1 C.2.1 dX2_digest_77 rfl (lv_at hl 1 rfl) ?_
        refine lv_ldc2 (v := 31) C.1 C.2.1 C.2.2.1 (C.2.2.2.1 _ q1972) dX2_digest_78 ?_
        refine lv_lmul C.1 C.2.1 dX2_digest_81 ?_
        refine lv_aload_n C.1 C.2.1 dX2_digest_82 rfl (lv_at hl 2 rfl) ?_
        refine gf_X2_39_8 C hS hm rfl dX2_digest_83 ?_
        refine lv_i2l (v := (iI (M1.1 1)).toInt64) C.1 C.2.1 dX2_digest_86 rfl ?_
        refine lv_ladd C.1 C.2.1 dX2_digest_87 ?_
        refine lv_lstore_n (lv' := [(1, .long (((dd * 31) + (iI (M1.1 1)).toInt64))), (3, .int (iI (q))), (0, .ref (mo))]) C.1 C.2.1 dX2_digest_88 rfl hl (by decide) rfl (fun ls hl => ?_)
        refine ti_const C.1 C.2.1 dX2_digest_89 ?_
        refine lv_istore_n (lv' := [(3, .int (iI (0))), (1, .long (((dd * 31) + (iI (M1.1 1)).toInt64))), (0, .ref (mo))]) C.1 C.2.1 dX2_digest_90 rfl hl (by decide) rfl (fun ls hl => ?_)
        have loop_14 : ∀ (n_15 : Nat) (b : Int) (dd : Int64), (0 ≤ b ∧ b ≤ M1.1 1) ∧ lp (mDgB M1) b (M1.1 1) dd = mDigest M1 → M1.1 1 - b < (n_15 : Int) → ∀ (H : Heap) (locs : List Loc) (ls : Array Slot), tl_S X s σ_1 H locs → lv_has ls 6 [(3, .int (iI (b))), (1, .long (dd)), (0, .ref (mo))] → W p l e (tl_rm 4 (0) (0)) s m ([.ref (mo)] : List Value).toArray below meth c H locs (0) (0) (MQ below (tl_Ql X (fun r σ' => r = mDigest M1 ∧ MD X σ' mo ad M1 ∧ mFr σ σ')) ([.ref (mo)] : List Value).toArray s (0) (0) (tl_A X)) (F0 m 91 ls []) := by
          intro n_15
          induction n_15 with
          | zero => intro b dd hinv hms; omega
          | succ n_15 ih_16 =>
            intro b dd hinv hms_17  H locs ls hS hl
            obtain ⟨hv2, hR2⟩ := hinv
            refine lv_iload_n C.1 C.2.1 dX2_digest_91 rfl (lv_at hl 0 rfl) ?_
            refine lv_aload_n C.1 C.2.1 dX2_digest_92 rfl (lv_at hl 2 rfl) ?_
            refine gf_X2_39_8 C hS hm rfl dX2_digest_93 ?_
            refine ti_icmp_ge (tgt := 179) C.1 C.2.1 dX2_digest_96 (by decide) ⟨by omega, by omega⟩ ⟨by omega, by omega⟩ (fun hc_18 => ?_) (fun hc_18 => ?_)
            · skip
              refine lv_lload_n C.1 C.2.1 dX2_digest_179 rfl (lv_at hl 1 rfl) ?_
              exact r_l C hr hlk hS ⟨lp_ex hR2 (by omega), ⟨hm, h0, h1, h2, h3, h4, h5, hd⟩, hfr⟩ dX2_digest_180
            · skip
              refine lv_lload_n C.1 C.2.1 dX2_digest_99 rfl (lv_at hl 1 rfl) ?_
              refine lv_ldc2 (v := 31) C.1 C.2.1 C.2.2.1 (C.2.2.2.1 _ q1972) dX2_digest_100 ?_
              refine lv_lmul C.1 C.2.1 dX2_digest_103 ?_
              refine lv_aload_n C.1 C.2.1 dX2_digest_104 rfl (lv_at hl 2 rfl) ?_
              refine lv_iload_n C.1 C.2.1 dX2_digest_105 rfl (lv_at hl 0 rfl) ?_
              have hpo_19 := mPieces_bd (M := M1) (by omega) (b)
              refine tl_ci (t_V (n := 1) (ci := 8) C hml hS (m2_piecesOf l X σ_1 mo ad M1 hM1 hI1 (b) (by omega)) q1935 q1937 qs43 q53 q1938 (by decide +kernel) hm rfl rfl hl.1 rfl (Nat.le_of_ble_eq_true rfl) dX2_digest_106 ⟨Nat.le_of_ble_eq_true rfl, Nat.le_of_ble_eq_true rfl⟩ ⟨Nat.le_refl _, Nat.le_refl _⟩) hS (fun r_20 σ_22 H locs hP_21 hS => ?_)
              obtain ⟨rfl, rfl⟩ := hP_21
              refine lv_i2l (v := (iI ((mPieces M1 b))).toInt64) C.1 C.2.1 dX2_digest_109 rfl ?_
              refine lv_ladd C.1 C.2.1 dX2_digest_110 ?_
              refine lv_lstore_n (lv' := [(1, .long (((dd * 31) + (iI ((mPieces M1 b))).toInt64))), (3, .int (iI (b))), (0, .ref (mo))]) C.1 C.2.1 dX2_digest_111 rfl hl (by decide) rfl (fun ls hl => ?_)
              refine lv_aload_n C.1 C.2.1 dX2_digest_112 rfl (lv_at hl 2 rfl) ?_
              refine lv_iload_n C.1 C.2.1 dX2_digest_113 rfl (lv_at hl 1 rfl) ?_
              refine ti_const C.1 C.2.1 dX2_digest_114 ?_
              have hpf_23 := mPf_ok (M := M1) (by omega) (b) (0)
              refine tl_ci (t_V (n := 2) (ci := 8) C hml hS (m2_pieceFrom l X σ_1 mo ad M1 hM1 hI1 (b) (0) (by omega)) q1943 q1945 qs44 q53 q1946 (by decide +kernel) hm rfl rfl hl.1 rfl (Nat.le_of_ble_eq_true rfl) dX2_digest_115 ⟨Nat.le_of_ble_eq_true rfl, Nat.le_of_ble_eq_true rfl⟩ ⟨Nat.le_refl _, Nat.le_refl _⟩) hS (fun r_24 σ_26 H locs hP_25 hS => ?_)
              obtain ⟨rfl, rfl⟩ := hP_25
              refine lv_istore (lv' := [(4, .int (iI ((mPieceFrom M1 b 0)))), (1, .long (((dd * 31) + (iI ((mPieces M1 b))).toInt64))), (3, .int (iI (b))), (0, .ref (mo))]) C.1 C.2.1 dX2_digest_118 hl (by decide) rfl (fun ls hl => ?_)
              have loop_27 : ∀ (n_28 : Nat) (q : Int) (de : Int64) (lo : Int), (0 ≤ lo ∧ lo ≤ 9000 ∧ (q = -1 ∨ 0 ≤ q ∧ q < M1.1 6 ∧ lo ≤ M1.2 4 (4 * q + 1))) ∧ mDgQ M1 b n_28 q de = mDgB M1 b dd → 20000 - lo < (n_28 : Int) → ∀ (H : Heap) (locs : List Loc) (ls : Array Slot), tl_S X s σ_1 H locs → lv_has ls 6 [(4, .int (iI (q))), (1, .long (de)), (3, .int (iI (b))), (0, .ref (mo))] → W p l e (tl_rm 4 (0) (0)) s m ([.ref (mo)] : List Value).toArray below meth c H locs (0) (0) (MQ below (tl_Ql X (fun r σ' => r = mDigest M1 ∧ MD X σ' mo ad M1 ∧ mFr σ σ')) ([.ref (mo)] : List Value).toArray s (0) (0) (tl_A X)) (F0 m 120 ls []) := by
                intro n_28
                induction n_28 with
                | zero => intro q de lo hinv hms; omega
                | succ n_28 ih_29 =>
                  intro q de lo hinv hms_30  H locs ls hS hl
                  obtain ⟨hv3, hR3⟩ := hinv
                  have hl7 : q ≠ -1 → M1.2 4 (4 * q + 1) < M1.2 4 (4 * q + 2) := fun h => hln1 q (by omega) (by omega)
                  have hb7 := hB 4 (4 * q + 1)
                  have hb8 := hB 4 (4 * q + 2)
                  refine lv_iload C.1 C.2.1 dX2_digest_120 (lv_at hl 0 rfl) ?_
                  refine ti_const C.1 C.2.1 dX2_digest_122 ?_
                  refine ti_icmp_eq (tgt := 173) C.1 C.2.1 dX2_digest_123 (by decide) ⟨by omega, by omega⟩ ⟨by decide, by decide⟩ (fun hc_31 => ?_) (fun hc_31 => ?_)
                  · skip
                    have hR3 : mDgB M1 b dd = de := by rw [← hR3]; show (if _ then _ else _) = _; rw [if_pos (by omega)]
                    refine ti_iinc (lv' := [(3, .int (iI ((b + 1)))), (4, .int (iI (q))), (1, .long (de)), (0, .ref (mo))]) C.1 C.2.1 dX2_digest_173 hl (k := 2) rfl (by decide) rfl (fun ls hl => ?_)
                    refine lv_goto (tgt := 91) C.1 C.2.1 dX2_digest_176 (by decide) ?_
                    exact ih_16 ((b + 1)) (de) ⟨by omega, lp_bk hR2 (by omega) hR3⟩ (by omega) _ _ _ hS (lv_sub hl [0, 2, 3] rfl)
                  · skip
                    refine ti_const C.1 C.2.1 dX2_digest_126 ?_
                    refine lv_istore (lv' := [(5, .int (iI (0))), (4, .int (iI (q))), (1, .long (de)), (3, .int (iI (b))), (0, .ref (mo))]) C.1 C.2.1 dX2_digest_127 hl (by decide) rfl (fun ls hl => ?_)
                    have loop_32 : ∀ (n_33 : Nat) (x : Int) (df : Int64), (0 ≤ x ∧ x ≤ 4) ∧ lp (fun w d => dg d (mTold M1 q w)) x 4 df = lp (fun w d => dg d (mTold M1 q w)) 0 4 de → 4 - x < (n_33 : Int) → ∀ (H : Heap) (locs : List Loc) (ls : Array Slot), tl_S X s σ_1 H locs → lv_has ls 6 [(5, .int (iI (x))), (4, .int (iI (q))), (1, .long (df)), (3, .int (iI (b))), (0, .ref (mo))] → W p l e (tl_rm 4 (0) (0)) s m ([.ref (mo)] : List Value).toArray below meth c H locs (0) (0) (MQ below (tl_Ql X (fun r σ' => r = mDigest M1 ∧ MD X σ' mo ad M1 ∧ mFr σ σ')) ([.ref (mo)] : List Value).toArray s (0) (0) (tl_A X)) (F0 m 129 ls []) := by
                      intro n_33
                      induction n_33 with
                      | zero => intro x df hinv hms; omega
                      | succ n_33 ih_34 =>
                        intro x df hinv hms_35  H locs ls hS hl
                        obtain ⟨hv4, hR4⟩ := hinv
                        refine lv_iload C.1 C.2.1 dX2_digest_129 (lv_at hl 0 rfl) ?_
                        refine ti_const C.1 C.2.1 dX2_digest_131 ?_
                        refine ti_icmp_ge (tgt := 157) C.1 C.2.1 dX2_digest_132 (by decide) ⟨by omega, by omega⟩ ⟨by decide, by decide⟩ (fun hc_36 => ?_) (fun hc_36 => ?_)
                        · skip
                          refine lv_aload_n C.1 C.2.1 dX2_digest_157 rfl (lv_at hl 4 rfl) ?_
                          refine lv_iload_n C.1 C.2.1 dX2_digest_158 rfl (lv_at hl 3 rfl) ?_
                          refine lv_aload_n C.1 C.2.1 dX2_digest_159 rfl (lv_at hl 4 rfl) ?_
                          refine lv_iload C.1 C.2.1 dX2_digest_160 (lv_at hl 1 rfl) ?_
                          have hb_37 := hB 4 ((4 * q) + 2)
                          refine tl_ci (t_V (n := 1) (ci := 8) C hml hS (m2_to l X σ_1 mo ad M1 hM1 hI1 (q) (by omega)) q1809 q1811 qs26 q53 q1812 (by decide +kernel) hm rfl rfl hl.1 rfl (Nat.le_of_ble_eq_true rfl) dX2_digest_162 ⟨Nat.le_of_ble_eq_true rfl, Nat.le_of_ble_eq_true rfl⟩ ⟨Nat.le_refl _, Nat.le_refl _⟩) hS (fun r_38 σ_40 H locs hP_39 hS => ?_)
                          obtain ⟨rfl, rfl⟩ := hP_39
                          have hpf_41 := mPf_ok (M := M1) (by omega) (b) ((M1.2 4 ((4 * q) + 2)))
                          refine tl_ci (t_V (n := 2) (ci := 8) C hml hS (m2_pieceFrom l X σ_1 mo ad M1 hM1 hI1 (b) ((M1.2 4 ((4 * q) + 2))) (by omega)) q1943 q1945 qs44 q53 q1946 (by decide +kernel) hm rfl rfl hl.1 rfl (Nat.le_of_ble_eq_true rfl) dX2_digest_165 ⟨Nat.le_of_ble_eq_true rfl, Nat.le_of_ble_eq_true rfl⟩ ⟨Nat.le_refl _, Nat.le_refl _⟩) hS (fun r_42 σ_44 H locs hP_43 hS => ?_)
                          obtain ⟨rfl, rfl⟩ := hP_43
                          refine lv_istore (lv' := [(4, .int (iI ((mPieceFrom M1 b (M1.2 4 ((4 * q) + 2)))))), (5, .int (iI (x))), (1, .long (df)), (3, .int (iI (b))), (0, .ref (mo))]) C.1 C.2.1 dX2_digest_168 hl (by decide) rfl (fun ls hl => ?_)
                          refine lv_goto (tgt := 120) C.1 C.2.1 dX2_digest_170 (by decide) ?_
                          exact ih_29 ((mPieceFrom M1 b (M1.2 4 ((4 * q) + 2)))) (df) (M1.2 4 (4 * q + 2)) ⟨by omega, by rw [← hR3]; show _ = (if _ then _ else _); rw [if_neg (by omega), ← hR4, lp_ge (by omega)]⟩ (by omega) _ _ _ hS (lv_sub hl [0, 2, 3, 4] rfl)
                        · skip
                          refine lv_lload_n C.1 C.2.1 dX2_digest_135 rfl (lv_at hl 2 rfl) ?_
                          refine lv_ldc2 (v := 31) C.1 C.2.1 C.2.2.1 (C.2.2.2.1 _ q1972) dX2_digest_136 ?_
                          refine lv_lmul C.1 C.2.1 dX2_digest_139 ?_
                          refine lv_aload_n C.1 C.2.1 dX2_digest_140 rfl (lv_at hl 4 rfl) ?_
                          refine lv_iload C.1 C.2.1 dX2_digest_141 (lv_at hl 1 rfl) ?_
                          refine lv_iload C.1 C.2.1 dX2_digest_143 (lv_at hl 0 rfl) ?_
                          refine tl_ci (t_V (n := 2) (ci := 8) C hml hS (m2_told l X σ_1 mo ad M1 hM1 hI1 (q) (x) (by omega)) q1947 q1949 qs45 q53 q1950 (by decide +kernel) hm rfl rfl hl.1 rfl (Nat.le_of_ble_eq_true rfl) dX2_digest_145 ⟨Nat.le_of_ble_eq_true rfl, Nat.le_of_ble_eq_true rfl⟩ ⟨Nat.le_refl _, Nat.le_refl _⟩) hS (fun r_45 σ_47 H locs hP_46 hS => ?_)
                          obtain ⟨rfl, rfl⟩ := hP_46
                          refine lv_i2l (v := (iI ((mTold M1 q x))).toInt64) C.1 C.2.1 dX2_digest_148 rfl ?_
                          refine lv_ladd C.1 C.2.1 dX2_digest_149 ?_
                          refine lv_lstore_n (lv' := [(1, .long (((df * 31) + (iI ((mTold M1 q x))).toInt64))), (5, .int (iI (x))), (4, .int (iI (q))), (3, .int (iI (b))), (0, .ref (mo))]) C.1 C.2.1 dX2_digest_150 rfl hl (by decide) rfl (fun ls hl => ?_)
                          refine ti_iinc (lv' := [(5, .int (iI ((x + 1)))), (1, .long (((df * 31) + (iI ((mTold M1 q x))).toInt64))), (4, .int (iI (q))), (3, .int (iI (b))), (0, .ref (mo))]) C.1 C.2.1 dX2_digest_151 hl (k := 1) rfl (by decide) rfl (fun ls hl => ?_)
                          refine lv_goto (tgt := 129) C.1 C.2.1 dX2_digest_154 (by decide) ?_
                          exact ih_34 ((x + 1)) (((df * 31) + (iI ((mTold M1 q x))).toInt64)) ⟨by omega, lp_bk hR4 (by omega) rfl⟩ (by omega) _ _ _ hS (lv_sub hl [0, 2, 1, 3, 4] rfl)
                    exact loop_32 (((4 - (0) : Int)).toNat + 1) (0) (de) ⟨by omega, rfl⟩ (by omega) _ _ _ hS (lv_sub hl [0, 1, 2, 3, 4] rfl)
              exact loop_27 (20001) ((mPieceFrom M1 b 0)) (((dd * 31) + (iI ((mPieces M1 b))).toInt64)) 0 ⟨by omega, rfl⟩ (by omega) _ _ _ hS (lv_sub hl [0, 1, 2, 3] rfl)
        exact loop_14 (((M1.1 1 - (0) : Int)).toNat + 1) (0) (((dd * 31) + (iI (M1.1 1)).toInt64)) ⟨by omega, by rw [lp_ex hR (by omega), er1]; rfl⟩ (by omega) _ _ _ hS (lv_sub hl [0, 1, 2] rfl)
      · skip
        refine lv_lload_n C.1 C.2.1 dX2_digest_57 rfl (lv_at hl 1 rfl) ?_
        refine lv_ldc2 (v := 31) C.1 C.2.1 C.2.2.1 (C.2.2.2.1 _ q1972) dX2_digest_58 ?_
        refine lv_lmul C.1 C.2.1 dX2_digest_61 ?_
        refine lv_aload_n C.1 C.2.1 dX2_digest_62 rfl (lv_at hl 2 rfl) ?_
        refine lv_iload_n C.1 C.2.1 dX2_digest_63 rfl (lv_at hl 0 rfl) ?_
        refine ti_const C.1 C.2.1 dX2_digest_64 ?_
        have hb_48 := hWn ((4 * q) + 3)
        refine tl_ci (t_V (n := 2) (ci := 8) C hml hS (m2_want l X σ_1 mo ad M1 hM1 hI1 (q) (3) (by omega)) q1817 q1819 qs28 q53 q1820 (by decide +kernel) hm rfl rfl hl.1 rfl (Nat.le_of_ble_eq_true rfl) dX2_digest_65 ⟨Nat.le_of_ble_eq_true rfl, Nat.le_of_ble_eq_true rfl⟩ ⟨Nat.le_refl _, Nat.le_refl _⟩) hS (fun r_49 σ_51 H locs hP_50 hS => ?_)
        obtain ⟨rfl, rfl⟩ := hP_50
        refine lv_i2l (v := (iI ((M1.2 2 ((4 * q) + 3)))).toInt64) C.1 C.2.1 dX2_digest_68 rfl ?_
        refine lv_ladd C.1 C.2.1 dX2_digest_69 ?_
        refine lv_lstore_n (lv' := [(1, .long (((dd * 31) + (iI ((M1.2 2 ((4 * q) + 3)))).toInt64))), (3, .int (iI (q))), (0, .ref (mo))]) C.1 C.2.1 dX2_digest_70 rfl hl (by decide) rfl (fun ls hl => ?_)
        refine ti_iinc (lv' := [(3, .int (iI ((q + 1)))), (1, .long (((dd * 31) + (iI ((M1.2 2 ((4 * q) + 3)))).toInt64))), (0, .ref (mo))]) C.1 C.2.1 dX2_digest_71 hl (k := 1) rfl (by decide) rfl (fun ls hl => ?_)
        refine lv_goto (tgt := 49) C.1 C.2.1 dX2_digest_74 (by decide) ?_
        exact ih_11 ((q + 1)) (((dd * 31) + (iI ((M1.2 2 ((4 * q) + 3)))).toInt64)) ⟨by omega, lp_bk hR (by omega) rfl⟩ (by omega) _ _ _ hS (lv_sub hl [0, 1, 2] rfl)
  exact loop_9 (((M1.1 3 - (0) : Int)).toNat + 1) (0) ((((((((8339 + (iI (M1.1 4)).toInt64) * 31) + (iI (M1.1 5)).toInt64) * 31) + (iI (M1.1 2)).toInt64) * 31) + (iI (M1.1 3)).toInt64)) ⟨by omega, by rw [er1]; rfl⟩ (by omega) _ _ _ hS (lv_sub hl [0, 1, 2] rfl)

set_option maxHeartbeats 4000000 in
theorem m2_used (l : Launch) (X : tl_X) (σ : tl_H) (mo : Nat) (ad : Nat → Nat) (M : mS) (hM : MD X σ mo ad M) (hI : mI M)  (hnan : (mUsAll (mset M 0 0)).2 ≠ 0 → vf_n64 (FP.ddiv (FP.l2d (mUsAll (mset M 0 0)).1) (FP.l2d (mUsAll (mset M 0 0)).2))) : tl_Met l X yX2_used cX2_used 7 ((Option.some FieldType.double)) 4 (0) (0) [.ref (mo)] σ (tl_Qd X (fun r σ' => r = mUsed (mset M 0 0) ∧ MD X σ' mo ad (mset M 0 0) ∧ mFr σ σ')) := by
  obtain ⟨M1, eM1⟩ : ∃ z, z = mset M 0 0 := ⟨_, rfl⟩
  have hnan1 := hnan
  rw [← eM1] at hnan1
  rw [← eM1]
  refine tl_start (by decide) (Nat.le_of_ble_eq_true rfl) (fun p e s m below meth c ls C hr hml hlk hnm hS hl => ?_)
  have hl : lv_has ls 7 [(0, .ref (mo))] := hl
  obtain ⟨hm, h0, h1, h2, h3, h4, h5, hd⟩ := id hM
  obtain ⟨hN, hB, hPt, hJ, hA, hWn⟩ := id hI
  have hfr : mFr σ σ := mFr.rf
  refine lv_aload_n C.1 C.2.1 dX2_used_0 rfl (lv_at hl 0 rfl) ?_
  refine ti_const C.1 C.2.1 dX2_used_1 ?_
  refine gp_X2_36_8 C hS hm rfl rfl (Nat.le_of_ble_eq_true rfl) dX2_used_2 (fun H locs hS => ?_)
  obtain ⟨σ_1, eσ_1⟩ : ∃ z, z = va_up σ (mo) (some (oO 8 [.int (iI (0)), .int (iI (M.1 1)), .ref (ad 0), .int (iI (M.1 2)), .ref (ad 1), .int (iI (M.1 3)), .ref (ad 2), .ref (ad 3), .int (iI (M.1 4)), .int (iI (M.1 5)), .int (iI (M.1 6)), .ref (ad 4), .ref (ad 5), .int (iI (M.1 7)), .int (iI (M.1 8))])) := ⟨_, rfl⟩
  have hS : tl_S X s σ_1 H locs := by rw [eσ_1]; exact hS
  have he_2 : σ_1 (mo) = some (oO 8 [.int (iI (0)), .int (iI (M.1 1)), .ref (ad 0), .int (iI (M.1 2)), .ref (ad 1), .int (iI (M.1 3)), .ref (ad 2), .ref (ad 3), .int (iI (M.1 4)), .int (iI (M.1 5)), .int (iI (M.1 6)), .ref (ad 4), .ref (ad 5), .int (iI (M.1 7)), .int (iI (M.1 8))]) := by rw [eσ_1]; exact up_s
  have he_3 := up_kp eσ_1 (Ne.symm (tl_neA hm h0)) h0
  have he_4 := up_kp eσ_1 (Ne.symm (tl_neA hm h1)) h1
  have he_5 := up_kp eσ_1 (Ne.symm (tl_neA hm h2)) h2
  have he_6 := up_kp eσ_1 (Ne.symm (tl_neA hm h3)) h3
  have he_7 := up_kp eσ_1 (Ne.symm (tl_neA hm h4)) h4
  have he_8 := up_kp eσ_1 (Ne.symm (tl_neA hm h5)) h5
  have hfr := hfr.up hm mK_o eσ_1
  have hM1 : MD X σ_1 mo ad M1 := by rw [eM1]; exact ⟨he_2, he_3, he_4, he_5, he_6, he_7, he_8, hd⟩
  have hI1 : mI M1 := by rw [eM1]; exact hI.t0 0 (by decide)
  obtain ⟨hm, h0, h1, h2, h3, h4, h5, hd⟩ := id hM1
  obtain ⟨hN, hB, hPt, hJ, hA, hWn⟩ := id hI1
  refine lv_lconst (v := 0) C.1 C.2.1 dX2_used_5 (by decide) ?_
  refine lv_lstore_n (lv' := [(1, .long (0)), (0, .ref (mo))]) C.1 C.2.1 dX2_used_6 rfl hl (by decide) rfl (fun ls hl => ?_)
  refine lv_lconst (v := 0) C.1 C.2.1 dX2_used_7 (by decide) ?_
  refine lv_lstore_n (lv' := [(3, .long (0)), (1, .long (0)), (0, .ref (mo))]) C.1 C.2.1 dX2_used_8 rfl hl (by decide) rfl (fun ls hl => ?_)
  refine ti_const C.1 C.2.1 dX2_used_9 ?_
  refine lv_istore (lv' := [(5, .int (iI (0))), (3, .long (0)), (1, .long (0)), (0, .ref (mo))]) C.1 C.2.1 dX2_used_10 hl (by decide) rfl (fun ls hl => ?_)
  have loop_9 : ∀ (n_10 : Nat) (b : Int) (pc1 : Int64) (al : Int64), (0 ≤ b ∧ b ≤ M1.1 1) ∧ lp (mUsF M1) b (M1.1 1) (pc1, al) = mUsAll M1 → M1.1 1 - b < (n_10 : Int) → ∀ (H : Heap) (locs : List Loc) (ls : Array Slot), tl_S X s σ_1 H locs → lv_has ls 7 [(5, .int (iI (b))), (3, .long (al)), (1, .long (pc1)), (0, .ref (mo))] → W p l e (tl_rm 4 (0) (0)) s m ([.ref (mo)] : List Value).toArray below meth c H locs (0) (0) (MQ below (tl_Qd X (fun r σ' => r = mUsed M1 ∧ MD X σ' mo ad M1 ∧ mFr σ σ')) ([.ref (mo)] : List Value).toArray s (0) (0) (tl_A X)) (F0 m 12 ls []) := by
    intro n_10
    induction n_10 with
    | zero => intro b pc1 al hinv hms; omega
    | succ n_10 ih_11 =>
      intro b pc1 al hinv hms_12  H locs ls hS hl
      obtain ⟨hv, hR⟩ := hinv
      refine lv_iload C.1 C.2.1 dX2_used_12 (lv_at hl 0 rfl) ?_
      refine lv_aload_n C.1 C.2.1 dX2_used_14 rfl (lv_at hl 3 rfl) ?_
      refine gf_X2_39_8 C hS hm rfl dX2_used_15 ?_
      refine ti_icmp_ge (tgt := 120) C.1 C.2.1 dX2_used_18 (by decide) ⟨by omega, by omega⟩ ⟨by omega, by omega⟩ (fun hc_13 => ?_) (fun hc_13 => ?_)
      · skip
        have hR9 := lp_ex hR (by omega)
        refine lv_lload_n C.1 C.2.1 dX2_used_120 rfl (lv_at hl 1 rfl) ?_
        refine lv_lconst (v := 0) C.1 C.2.1 dX2_used_121 (by decide) ?_
        refine W.lcmp C.1 C.2.1 dX2_used_122 ?_
        refine ti_lcmp_ne (tgt := 130) C.1 C.2.1 dX2_used_123 (by decide) (fun hc_14 => ?_) (fun hc_14 => ?_)
        · skip
          refine lv_lload_n C.1 C.2.1 dX2_used_130 rfl (lv_at hl 2 rfl) ?_
          refine lv_l2d C.1 C.2.1 dX2_used_131 ?_
          refine lv_lload_n C.1 C.2.1 dX2_used_132 rfl (lv_at hl 1 rfl) ?_
          refine lv_l2d C.1 C.2.1 dX2_used_133 ?_
          refine lv_ddiv C.1 C.2.1 dX2_used_134 (by have := hnan1 (by rw [← hR9]; assumption); rw [← hR9] at this; exact this) ?_
          exact r_d C hr hlk hS ⟨by unfold mUsed; rw [← hR9]; first | rw [if_pos (by assumption)] | rw [if_neg (by assumption)], ⟨hm, h0, h1, h2, h3, h4, h5, hd⟩, hfr⟩ dX2_used_135
        · skip
          refine lv_dconst0 C.1 C.2.1 dX2_used_126 ?_
          refine lv_goto (tgt := 135) C.1 C.2.1 dX2_used_127 (by decide) ?_
          exact r_d C hr hlk hS ⟨by unfold mUsed; rw [← hR9]; first | rw [if_pos (by assumption)] | rw [if_neg (by assumption)], ⟨hm, h0, h1, h2, h3, h4, h5, hd⟩, hfr⟩ dX2_used_135
      · skip
        refine lv_aload_n C.1 C.2.1 dX2_used_21 rfl (lv_at hl 3 rfl) ?_
        refine lv_iload C.1 C.2.1 dX2_used_22 (lv_at hl 0 rfl) ?_
        have hpo_15 := mPieces_bd (M := M1) (by omega) (b)
        refine tl_ci (t_V (n := 1) (ci := 8) C hml hS (m2_piecesOf l X σ_1 mo ad M1 hM1 hI1 (b) (by omega)) q1935 q1937 qs43 q53 q1938 (by decide +kernel) hm rfl rfl hl.1 rfl (Nat.le_of_ble_eq_true rfl) dX2_used_24 ⟨Nat.le_of_ble_eq_true rfl, Nat.le_of_ble_eq_true rfl⟩ ⟨Nat.le_refl _, Nat.le_refl _⟩) hS (fun r_16 σ_18 H locs hP_17 hS => ?_)
        obtain ⟨rfl, rfl⟩ := hP_17
        refine ti_if_ne (tgt := 33) C.1 C.2.1 dX2_used_27 (by decide) ⟨by omega, by omega⟩ (fun hc_19 => ?_) (fun hc_19 => ?_)
        · skip
          refine lv_lload_n C.1 C.2.1 dX2_used_33 rfl (lv_at hl 1 rfl) ?_
          refine lv_aload_n C.1 C.2.1 dX2_used_34 rfl (lv_at hl 3 rfl) ?_
          refine lv_iload C.1 C.2.1 dX2_used_35 (lv_at hl 0 rfl) ?_
          have hb_20 := hB 0 (3 * b)
          refine tl_ci (t_V (n := 1) (ci := 8) C hml hS (m2_length l X σ_1 mo ad M1 hM1 hI1 (b) (by omega)) q1797 q1799 qs23 q53 q1800 (by decide +kernel) hm rfl rfl hl.1 rfl (Nat.le_of_ble_eq_true rfl) dX2_used_37 ⟨Nat.le_of_ble_eq_true rfl, Nat.le_of_ble_eq_true rfl⟩ ⟨Nat.le_refl _, Nat.le_refl _⟩) hS (fun r_21 σ_23 H locs hP_22 hS => ?_)
          obtain ⟨rfl, rfl⟩ := hP_22
          refine lv_i2l (v := (iI ((M1.2 0 (3 * b)))).toInt64) C.1 C.2.1 dX2_used_40 rfl ?_
          refine lv_aload_n C.1 C.2.1 dX2_used_41 rfl (lv_at hl 3 rfl) ?_
          refine lv_iload C.1 C.2.1 dX2_used_42 (lv_at hl 0 rfl) ?_
          have hb_24 := hB 0 ((3 * b) + 1)
          refine tl_ci (t_V (n := 1) (ci := 8) C hml hS (m2_width l X σ_1 mo ad M1 hM1 hI1 (b) (by omega)) q1875 q1877 qs35 q53 q1878 (by decide +kernel) hm rfl rfl hl.1 rfl (Nat.le_of_ble_eq_true rfl) dX2_used_44 ⟨Nat.le_of_ble_eq_true rfl, Nat.le_of_ble_eq_true rfl⟩ ⟨Nat.le_refl _, Nat.le_refl _⟩) hS (fun r_25 σ_27 H locs hP_26 hS => ?_)
          obtain ⟨rfl, rfl⟩ := hP_26
          refine lv_i2l (v := (iI ((M1.2 0 ((3 * b) + 1)))).toInt64) C.1 C.2.1 dX2_used_47 rfl ?_
          refine lv_lmul C.1 C.2.1 dX2_used_48 ?_
          refine lv_ladd C.1 C.2.1 dX2_used_49 ?_
          refine lv_lstore_n (lv' := [(3, .long ((al + ((iI ((M1.2 0 (3 * b)))).toInt64 * (iI ((M1.2 0 ((3 * b) + 1)))).toInt64)))), (5, .int (iI (b))), (1, .long (pc1)), (0, .ref (mo))]) C.1 C.2.1 dX2_used_50 rfl hl (by decide) rfl (fun ls hl => ?_)
          refine ti_const C.1 C.2.1 dX2_used_51 ?_
          refine lv_istore (lv' := [(6, .int (iI (0))), (3, .long ((al + ((iI ((M1.2 0 (3 * b)))).toInt64 * (iI ((M1.2 0 ((3 * b) + 1)))).toInt64)))), (5, .int (iI (b))), (1, .long (pc1)), (0, .ref (mo))]) C.1 C.2.1 dX2_used_52 hl (by decide) rfl (fun ls hl => ?_)
          have loop_28 : ∀ (n_29 : Nat) (q : Int) (pd : Int64), (0 ≤ q ∧ q ≤ M1.1 6) ∧ lp (mUsP M1 b) q (M1.1 6) pd = lp (mUsP M1 b) 0 (M1.1 6) pc1 → M1.1 6 - q < (n_29 : Int) → ∀ (H : Heap) (locs : List Loc) (ls : Array Slot), tl_S X s σ_1 H locs → lv_has ls 7 [(6, .int (iI (q))), (3, .long ((al + ((iI ((M1.2 0 (3 * b)))).toInt64 * (iI ((M1.2 0 ((3 * b) + 1)))).toInt64)))), (5, .int (iI (b))), (1, .long (pd)), (0, .ref (mo))] → W p l e (tl_rm 4 (0) (0)) s m ([.ref (mo)] : List Value).toArray below meth c H locs (0) (0) (MQ below (tl_Qd X (fun r σ' => r = mUsed M1 ∧ MD X σ' mo ad M1 ∧ mFr σ σ')) ([.ref (mo)] : List Value).toArray s (0) (0) (tl_A X)) (F0 m 54 ls []) := by
            intro n_29
            induction n_29 with
            | zero => intro q pd hinv hms; omega
            | succ n_29 ih_30 =>
              intro q pd hinv hms_31  H locs ls hS hl
              obtain ⟨hv2, hR2⟩ := hinv
              refine lv_iload C.1 C.2.1 dX2_used_54 (lv_at hl 0 rfl) ?_
              refine lv_aload_n C.1 C.2.1 dX2_used_56 rfl (lv_at hl 4 rfl) ?_
              refine gf_X2_63_8 C hS hm rfl dX2_used_57 ?_
              refine ti_icmp_ge (tgt := 114) C.1 C.2.1 dX2_used_60 (by decide) ⟨by omega, by omega⟩ ⟨by omega, by omega⟩ (fun hc_32 => ?_) (fun hc_32 => ?_)
              · skip
                refine ti_iinc (lv' := [(5, .int (iI ((b + 1)))), (6, .int (iI (q))), (3, .long ((al + ((iI ((M1.2 0 (3 * b)))).toInt64 * (iI ((M1.2 0 ((3 * b) + 1)))).toInt64)))), (1, .long (pd)), (0, .ref (mo))]) C.1 C.2.1 dX2_used_114 hl (k := 2) rfl (by decide) rfl (fun ls hl => ?_)
                refine lv_goto (tgt := 12) C.1 C.2.1 dX2_used_117 (by decide) ?_
                exact ih_11 ((b + 1)) (pd) ((al + ((iI ((M1.2 0 (3 * b)))).toInt64 * (iI ((M1.2 0 ((3 * b) + 1)))).toInt64))) ⟨by omega, lp_bk hR (by omega) (by unfold mUsF; first | rw [if_pos (by omega)] | (rw [if_neg (by omega), lp_ex hR2 (by omega)]))⟩ (by omega) _ _ _ hS (lv_sub hl [0, 2, 3, 4] rfl)
              · skip
                refine lv_lload_n C.1 C.2.1 dX2_used_63 rfl (lv_at hl 3 rfl) ?_
                refine lv_aload_n C.1 C.2.1 dX2_used_64 rfl (lv_at hl 4 rfl) ?_
                refine lv_iload C.1 C.2.1 dX2_used_65 (lv_at hl 0 rfl) ?_
                refine lv_iload C.1 C.2.1 dX2_used_67 (lv_at hl 2 rfl) ?_
                refine tl_ci (t_V (n := 2) (ci := 8) C hml hS (m2_isOn l X σ_1 mo ad M1 hM1 hI1 (q) (b) (by omega)) q1801 q1803 qs24 q53 q1804 (by decide +kernel) hm rfl rfl hl.1 rfl (Nat.le_of_ble_eq_true rfl) dX2_used_69 ⟨Nat.le_of_ble_eq_true rfl, Nat.le_of_ble_eq_true rfl⟩ ⟨Nat.le_refl _, Nat.le_refl _⟩) hS (fun r_33 σ_35 H locs hP_34 hS => ?_)
                obtain ⟨rfl, rfl⟩ := hP_34
                refine ti_tb_eq (tgt := 105) C.1 C.2.1 dX2_used_72 (by decide) (fun hc_36 => ?_) (fun hc_36 => ?_)
                · skip
                  refine lv_lconst (v := 0) C.1 C.2.1 dX2_used_105 (by decide) ?_
                  refine lv_ladd C.1 C.2.1 dX2_used_106 ?_
                  refine lv_lstore_n (lv' := [(1, .long ((pd + 0))), (6, .int (iI (q))), (3, .long ((al + ((iI ((M1.2 0 (3 * b)))).toInt64 * (iI ((M1.2 0 ((3 * b) + 1)))).toInt64)))), (5, .int (iI (b))), (0, .ref (mo))]) C.1 C.2.1 dX2_used_107 rfl hl (by decide) rfl (fun ls hl => ?_)
                  refine ti_iinc (lv' := [(6, .int (iI ((q + 1)))), (1, .long ((pd + 0))), (3, .long ((al + ((iI ((M1.2 0 (3 * b)))).toInt64 * (iI ((M1.2 0 ((3 * b) + 1)))).toInt64)))), (5, .int (iI (b))), (0, .ref (mo))]) C.1 C.2.1 dX2_used_108 hl (k := 1) rfl (by decide) rfl (fun ls hl => ?_)
                  refine lv_goto (tgt := 54) C.1 C.2.1 dX2_used_111 (by decide) ?_
                  exact ih_30 ((q + 1)) ((pd + 0)) ⟨by omega, lp_bk hR2 (by omega) (by unfold mUsP; first | rw [if_pos (by omega)] | rw [if_neg (by omega)])⟩ (by omega) _ _ _ hS (lv_sub hl [0, 2, 3, 1, 4] rfl)
                · skip
                  refine lv_aload_n C.1 C.2.1 dX2_used_75 rfl (lv_at hl 4 rfl) ?_
                  refine lv_iload C.1 C.2.1 dX2_used_76 (lv_at hl 0 rfl) ?_
                  have hb_37 := hB 4 ((4 * q) + 2)
                  refine tl_ci (t_V (n := 1) (ci := 8) C hml hS (m2_to l X σ_1 mo ad M1 hM1 hI1 (q) (by omega)) q1809 q1811 qs26 q53 q1812 (by decide +kernel) hm rfl rfl hl.1 rfl (Nat.le_of_ble_eq_true rfl) dX2_used_78 ⟨Nat.le_of_ble_eq_true rfl, Nat.le_of_ble_eq_true rfl⟩ ⟨Nat.le_refl _, Nat.le_refl _⟩) hS (fun r_38 σ_40 H locs hP_39 hS => ?_)
                  obtain ⟨rfl, rfl⟩ := hP_39
                  refine lv_aload_n C.1 C.2.1 dX2_used_81 rfl (lv_at hl 4 rfl) ?_
                  refine lv_iload C.1 C.2.1 dX2_used_82 (lv_at hl 0 rfl) ?_
                  have hb_41 := hB 4 ((4 * q) + 1)
                  refine tl_ci (t_V (n := 1) (ci := 8) C hml hS (m2_from l X σ_1 mo ad M1 hM1 hI1 (q) (by omega)) q1805 q1807 qs25 q53 q1808 (by decide +kernel) hm rfl rfl hl.1 rfl (Nat.le_of_ble_eq_true rfl) dX2_used_84 ⟨Nat.le_of_ble_eq_true rfl, Nat.le_of_ble_eq_true rfl⟩ ⟨Nat.le_refl _, Nat.le_refl _⟩) hS (fun r_42 σ_44 H locs hP_43 hS => ?_)
                  obtain ⟨rfl, rfl⟩ := hP_43
                  refine ti_isub C.1 C.2.1 dX2_used_87 ?_
                  refine lv_i2l (v := (iI (((M1.2 4 ((4 * q) + 2)) - (M1.2 4 ((4 * q) + 1))))).toInt64) C.1 C.2.1 dX2_used_88 rfl ?_
                  refine lv_aload_n C.1 C.2.1 dX2_used_89 rfl (lv_at hl 4 rfl) ?_
                  refine lv_aload_n C.1 C.2.1 dX2_used_90 rfl (lv_at hl 4 rfl) ?_
                  refine lv_iload C.1 C.2.1 dX2_used_91 (lv_at hl 0 rfl) ?_
                  have hb_45 := hB 4 ((4 * q) + 3)
                  have hpt_46 := hPt (q) (by omega) (by omega)
                  refine tl_ci (t_V (n := 1) (ci := 8) C hml hS (m2_partOf l X σ_1 mo ad M1 hM1 hI1 (q) (by omega)) q1813 q1815 qs27 q53 q1816 (by decide +kernel) hm rfl rfl hl.1 rfl (Nat.le_of_ble_eq_true rfl) dX2_used_93 ⟨Nat.le_of_ble_eq_true rfl, Nat.le_of_ble_eq_true rfl⟩ ⟨Nat.le_refl _, Nat.le_refl _⟩) hS (fun r_47 σ_49 H locs hP_48 hS => ?_)
                  obtain ⟨rfl, rfl⟩ := hP_48
                  refine ti_const C.1 C.2.1 dX2_used_96 ?_
                  have hb_50 := hWn ((4 * (M1.2 4 ((4 * q) + 3))) + 1)
                  refine tl_ci (t_V (n := 2) (ci := 8) C hml hS (m2_want l X σ_1 mo ad M1 hM1 hI1 ((M1.2 4 ((4 * q) + 3))) (1) (by omega)) q1817 q1819 qs28 q53 q1820 (by decide +kernel) hm rfl rfl hl.1 rfl (Nat.le_of_ble_eq_true rfl) dX2_used_97 ⟨Nat.le_of_ble_eq_true rfl, Nat.le_of_ble_eq_true rfl⟩ ⟨Nat.le_refl _, Nat.le_refl _⟩) hS (fun r_51 σ_53 H locs hP_52 hS => ?_)
                  obtain ⟨rfl, rfl⟩ := hP_52
                  refine lv_i2l (v := (iI ((M1.2 2 ((4 * (M1.2 4 ((4 * q) + 3))) + 1)))).toInt64) C.1 C.2.1 dX2_used_100 rfl ?_
                  refine lv_lmul C.1 C.2.1 dX2_used_101 ?_
                  refine lv_goto (tgt := 106) C.1 C.2.1 dX2_used_102 (by decide) ?_
                  refine lv_ladd C.1 C.2.1 dX2_used_106 ?_
                  refine lv_lstore_n (lv' := [(1, .long ((pd + ((iI (((M1.2 4 ((4 * q) + 2)) - (M1.2 4 ((4 * q) + 1))))).toInt64 * (iI ((M1.2 2 ((4 * (M1.2 4 ((4 * q) + 3))) + 1)))).toInt64)))), (6, .int (iI (q))), (3, .long ((al + ((iI ((M1.2 0 (3 * b)))).toInt64 * (iI ((M1.2 0 ((3 * b) + 1)))).toInt64)))), (5, .int (iI (b))), (0, .ref (mo))]) C.1 C.2.1 dX2_used_107 rfl hl (by decide) rfl (fun ls hl => ?_)
                  refine ti_iinc (lv' := [(6, .int (iI ((q + 1)))), (1, .long ((pd + ((iI (((M1.2 4 ((4 * q) + 2)) - (M1.2 4 ((4 * q) + 1))))).toInt64 * (iI ((M1.2 2 ((4 * (M1.2 4 ((4 * q) + 3))) + 1)))).toInt64)))), (3, .long ((al + ((iI ((M1.2 0 (3 * b)))).toInt64 * (iI ((M1.2 0 ((3 * b) + 1)))).toInt64)))), (5, .int (iI (b))), (0, .ref (mo))]) C.1 C.2.1 dX2_used_108 hl (k := 1) rfl (by decide) rfl (fun ls hl => ?_)
                  refine lv_goto (tgt := 54) C.1 C.2.1 dX2_used_111 (by decide) ?_
                  exact ih_30 ((q + 1)) ((pd + ((iI (((M1.2 4 ((4 * q) + 2)) - (M1.2 4 ((4 * q) + 1))))).toInt64 * (iI ((M1.2 2 ((4 * (M1.2 4 ((4 * q) + 3))) + 1)))).toInt64))) ⟨by omega, lp_bk hR2 (by omega) (by unfold mUsP; first | rw [if_pos (by omega)] | rw [if_neg (by omega)])⟩ (by omega) _ _ _ hS (lv_sub hl [0, 2, 3, 1, 4] rfl)
          exact loop_28 (((M1.1 6 - (0) : Int)).toNat + 1) (0) (pc1) ⟨by omega, rfl⟩ (by omega) _ _ _ hS (lv_sub hl [0, 1, 2, 3, 4] rfl)
        · skip
          refine lv_goto (tgt := 114) C.1 C.2.1 dX2_used_30 (by decide) ?_
          refine ti_iinc (lv' := [(5, .int (iI ((b + 1)))), (3, .long (al)), (1, .long (pc1)), (0, .ref (mo))]) C.1 C.2.1 dX2_used_114 hl (k := 0) rfl (by decide) rfl (fun ls hl => ?_)
          refine lv_goto (tgt := 12) C.1 C.2.1 dX2_used_117 (by decide) ?_
          exact ih_11 ((b + 1)) (pc1) (al) ⟨by omega, lp_bk hR (by omega) (by unfold mUsF; first | rw [if_pos (by omega)] | (rw [if_neg (by omega), lp_ex hR2 (by omega)]))⟩ (by omega) _ _ _ hS (lv_sub hl [0, 1, 2, 3] rfl)
  exact loop_9 (((M1.1 1 - (0) : Int)).toNat + 1) (0) (0) (0) ⟨by omega, rfl⟩ (by omega) _ _ _ hS (lv_sub hl [0, 1, 2, 3] rfl)

theorem gq_X2_9_8 {p : Program} {l : Launch} {e : Env} {R : Room} {s : State} {m : MethodId} {args : Array Value} {below : List Frame} {meth : Method} {c : Code} {H : Heap} {locs : List Loc} {cells slots : Nat} {Q : State → Prop} {cc : ByteArray} {pc : Nat} {ls : Array Slot} {rest : List Value} {X : tl_X} {σ : tl_H} {a : Nat} {fs : List Value} {v : Value} (C : tl_C X p s m args c cc RX2) (hin : meth.name = "<init>") (hS : tl_S X s σ H locs) (hw : X.2.1 ≤ a) (he : σ a = some (oO 8 fs)) (hn : narrow (tyX2 2) v = v) (hfit : fits (tyX2 2) v = true) (hl : 2 < fs.length) (hdg : decode cc pc = .ok (.putfield 9, 3)) (kk : ∀ (H1 : Heap) (locs1 : List Loc), tl_S X s (va_up σ a (some (oO 8 (fs.set 2 v)))) H1 locs1 → W p l e R s m args below meth c H1 locs1 cells slots Q (F0 m (pc + 3) ls rest)) : W p l e R s m args below meth c H locs cells slots Q (F0 m pc ls (v :: .ref a :: rest)) :=
  h_putF (ref := "TimberListModel") C hin hS in_X2 tyX2 tyX2_ok nmX2 rfl 2 (by decide) q1729 (fun _ h => h) rfl rfl hw he hn hfit hl hdg kk
theorem gq_X2_13_8 {p : Program} {l : Launch} {e : Env} {R : Room} {s : State} {m : MethodId} {args : Array Value} {below : List Frame} {meth : Method} {c : Code} {H : Heap} {locs : List Loc} {cells slots : Nat} {Q : State → Prop} {cc : ByteArray} {pc : Nat} {ls : Array Slot} {rest : List Value} {X : tl_X} {σ : tl_H} {a : Nat} {fs : List Value} {v : Value} (C : tl_C X p s m args c cc RX2) (hin : meth.name = "<init>") (hS : tl_S X s σ H locs) (hw : X.2.1 ≤ a) (he : σ a = some (oO 8 fs)) (hn : narrow (tyX2 4) v = v) (hfit : fits (tyX2 4) v = true) (hl : 4 < fs.length) (hdg : decode cc pc = .ok (.putfield 13, 3)) (kk : ∀ (H1 : Heap) (locs1 : List Loc), tl_S X s (va_up σ a (some (oO 8 (fs.set 4 v)))) H1 locs1 → W p l e R s m args below meth c H1 locs1 cells slots Q (F0 m (pc + 3) ls rest)) : W p l e R s m args below meth c H locs cells slots Q (F0 m pc ls (v :: .ref a :: rest)) :=
  h_putF (ref := "TimberListModel") C hin hS in_X2 tyX2 tyX2_ok nmX2 rfl 4 (by decide) q1731 (fun _ h => h) rfl rfl hw he hn hfit hl hdg kk
theorem gq_X2_16_8 {p : Program} {l : Launch} {e : Env} {R : Room} {s : State} {m : MethodId} {args : Array Value} {below : List Frame} {meth : Method} {c : Code} {H : Heap} {locs : List Loc} {cells slots : Nat} {Q : State → Prop} {cc : ByteArray} {pc : Nat} {ls : Array Slot} {rest : List Value} {X : tl_X} {σ : tl_H} {a : Nat} {fs : List Value} {v : Value} (C : tl_C X p s m args c cc RX2) (hin : meth.name = "<init>") (hS : tl_S X s σ H locs) (hw : X.2.1 ≤ a) (he : σ a = some (oO 8 fs)) (hn : narrow (tyX2 6) v = v) (hfit : fits (tyX2 6) v = true) (hl : 6 < fs.length) (hdg : decode cc pc = .ok (.putfield 16, 3)) (kk : ∀ (H1 : Heap) (locs1 : List Loc), tl_S X s (va_up σ a (some (oO 8 (fs.set 6 v)))) H1 locs1 → W p l e R s m args below meth c H1 locs1 cells slots Q (F0 m (pc + 3) ls rest)) : W p l e R s m args below meth c H locs cells slots Q (F0 m pc ls (v :: .ref a :: rest)) :=
  h_putF (ref := "TimberListModel") C hin hS in_X2 tyX2 tyX2_ok nmX2 rfl 6 (by decide) q1733 (fun _ h => h) rfl rfl hw he hn hfit hl hdg kk
theorem gq_X2_19_8 {p : Program} {l : Launch} {e : Env} {R : Room} {s : State} {m : MethodId} {args : Array Value} {below : List Frame} {meth : Method} {c : Code} {H : Heap} {locs : List Loc} {cells slots : Nat} {Q : State → Prop} {cc : ByteArray} {pc : Nat} {ls : Array Slot} {rest : List Value} {X : tl_X} {σ : tl_H} {a : Nat} {fs : List Value} {v : Value} (C : tl_C X p s m args c cc RX2) (hin : meth.name = "<init>") (hS : tl_S X s σ H locs) (hw : X.2.1 ≤ a) (he : σ a = some (oO 8 fs)) (hn : narrow (tyX2 7) v = v) (hfit : fits (tyX2 7) v = true) (hl : 7 < fs.length) (hdg : decode cc pc = .ok (.putfield 19, 3)) (kk : ∀ (H1 : Heap) (locs1 : List Loc), tl_S X s (va_up σ a (some (oO 8 (fs.set 7 v)))) H1 locs1 → W p l e R s m args below meth c H1 locs1 cells slots Q (F0 m (pc + 3) ls rest)) : W p l e R s m args below meth c H locs cells slots Q (F0 m pc ls (v :: .ref a :: rest)) :=
  h_putF (ref := "TimberListModel") C hin hS in_X2 tyX2 tyX2_ok nmX2 rfl 7 (by decide) q1734 (fun _ h => h) rfl rfl hw he hn hfit hl hdg kk
theorem gq_X2_30_8 {p : Program} {l : Launch} {e : Env} {R : Room} {s : State} {m : MethodId} {args : Array Value} {below : List Frame} {meth : Method} {c : Code} {H : Heap} {locs : List Loc} {cells slots : Nat} {Q : State → Prop} {cc : ByteArray} {pc : Nat} {ls : Array Slot} {rest : List Value} {X : tl_X} {σ : tl_H} {a : Nat} {fs : List Value} {v : Value} (C : tl_C X p s m args c cc RX2) (hin : meth.name = "<init>") (hS : tl_S X s σ H locs) (hw : X.2.1 ≤ a) (he : σ a = some (oO 8 fs)) (hn : narrow (tyX2 11) v = v) (hfit : fits (tyX2 11) v = true) (hl : 11 < fs.length) (hdg : decode cc pc = .ok (.putfield 30, 3)) (kk : ∀ (H1 : Heap) (locs1 : List Loc), tl_S X s (va_up σ a (some (oO 8 (fs.set 11 v)))) H1 locs1 → W p l e R s m args below meth c H1 locs1 cells slots Q (F0 m (pc + 3) ls rest)) : W p l e R s m args below meth c H locs cells slots Q (F0 m pc ls (v :: .ref a :: rest)) :=
  h_putF (ref := "TimberListModel") C hin hS in_X2 tyX2 tyX2_ok nmX2 rfl 11 (by decide) q1738 (fun _ h => h) rfl rfl hw he hn hfit hl hdg kk
theorem gq_X2_33_8 {p : Program} {l : Launch} {e : Env} {R : Room} {s : State} {m : MethodId} {args : Array Value} {below : List Frame} {meth : Method} {c : Code} {H : Heap} {locs : List Loc} {cells slots : Nat} {Q : State → Prop} {cc : ByteArray} {pc : Nat} {ls : Array Slot} {rest : List Value} {X : tl_X} {σ : tl_H} {a : Nat} {fs : List Value} {v : Value} (C : tl_C X p s m args c cc RX2) (hin : meth.name = "<init>") (hS : tl_S X s σ H locs) (hw : X.2.1 ≤ a) (he : σ a = some (oO 8 fs)) (hn : narrow (tyX2 12) v = v) (hfit : fits (tyX2 12) v = true) (hl : 12 < fs.length) (hdg : decode cc pc = .ok (.putfield 33, 3)) (kk : ∀ (H1 : Heap) (locs1 : List Loc), tl_S X s (va_up σ a (some (oO 8 (fs.set 12 v)))) H1 locs1 → W p l e R s m args below meth c H1 locs1 cells slots Q (F0 m (pc + 3) ls rest)) : W p l e R s m args below meth c H locs cells slots Q (F0 m pc ls (v :: .ref a :: rest)) :=
  h_putF (ref := "TimberListModel") C hin hS in_X2 tyX2 tyX2_ok nmX2 rfl 12 (by decide) q1739 (fun _ h => h) rfl rfl hw he hn hfit hl hdg kk
set_option maxHeartbeats 4000000 in
theorem m2_init (l : Launch) (X : tl_X) (σ : tl_H) (mo : Nat) (hw : X.2.1 ≤ mo) (hm : σ mo = some (oO 8 [.int (iI (0)), .int (iI (0)), .null, .int (iI (0)), .null, .int (iI (0)), .null, .null, .int (iI (0)), .int (iI (0)), .int (iI (0)), .null, .null, .int (iI (0)), .int (iI (0))])) : tl_Met l X yX2_init cX2_init 1 ((Option.none : Option FieldType)) 2 (6) (1266) [.ref (mo)] σ (tl_Qv X (fun σ' => ∃ ad, MD X σ' mo ad mStart ∧ ∀ a e, σ a = some e → a ≠ mo → σ' a = some e)) := by
  refine tl_start (by decide) (Nat.le_of_ble_eq_true rfl) (fun p e s m below meth c ls C hr hml hlk hnm hS hl => ?_)
  have hl : lv_has ls 1 [(0, .ref (mo))] := hl
  have hkeep : ∀ a e, σ a = some e → a ≠ mo → σ a = some e := fun _ _ h _ => h
  refine lv_aload_n C.1 C.2.1 dX2_init_0 rfl (lv_at hl 0 rfl) ?_
  refine h_obj C hml hl.1 q1726 dX2_init_1 (by show 1 ≤ 2; decide) (by show 40 ≤ 40 * 2; decide) (Nat.le_of_ble_eq_true rfl) ?_
  refine lv_aload_n C.1 C.2.1 dX2_init_4 rfl (lv_at hl 0 rfl) ?_
  refine ti_bipush C.1 C.2.1 dX2_init_5 (by decide) ?_
  refine h_newiZ (n := 30) C hS rfl (by decide) (by show 0 + 1 ≤ 6; omega) (by show 0 + 30 ≤ 1266; omega) dX2_init_7 (fun q_1 H hS hq_1 hBq_1 => ?_)
  obtain ⟨σ_2, eσ_2⟩ : ∃ z, z = va_up σ q_1 (some (oI (X.2.2.1 0) 30 (zA (fun _ => 0)))) := ⟨_, rfl⟩
  rw [← eσ_2] at hS
  have he_3 := up_kq eσ_2 hq_1 hm
  have he_4 : σ_2 q_1 = some (oI (X.2.2.1 0) 30 (zA (fun _ => 0))) := by rw [eσ_2]; exact up_s
  have hkeep : ∀ a e, σ a = some e → a ≠ mo → σ_2 a = some e := fun a e h1 h2 => up_kq eσ_2 hq_1 (hkeep a e h1 h2)
  refine gq_X2_9_8 C hnm hS hw he_3 rfl rfl (Nat.le_of_ble_eq_true rfl) dX2_init_9 (fun H locs hS => ?_)
  obtain ⟨σ_5, eσ_5⟩ : ∃ z, z = va_up σ_2 (mo) (some (oO 8 [.int (iI (0)), .int (iI (0)), .ref (q_1), .int (iI (0)), .null, .int (iI (0)), .null, .null, .int (iI (0)), .int (iI (0)), .int (iI (0)), .null, .null, .int (iI (0)), .int (iI (0))])) := ⟨_, rfl⟩
  have hS : tl_S X s σ_5 H locs := by rw [eσ_5]; exact hS
  have he_6 : σ_5 (mo) = some (oO 8 [.int (iI (0)), .int (iI (0)), .ref (q_1), .int (iI (0)), .null, .int (iI (0)), .null, .null, .int (iI (0)), .int (iI (0)), .int (iI (0)), .null, .null, .int (iI (0)), .int (iI (0))]) := by rw [eσ_5]; exact up_s
  have he_7 := up_kp eσ_5 (Ne.symm (tl_neA he_3 he_4)) he_4
  have hkeep : ∀ a e, σ a = some e → a ≠ mo → σ_5 a = some e := fun a e h1 h2 => up_kp eσ_5 h2 (hkeep a e h1 h2)
  refine lv_aload_n C.1 C.2.1 dX2_init_12 rfl (lv_at hl 0 rfl) ?_
  refine ti_bipush C.1 C.2.1 dX2_init_13 (by decide) ?_
  refine h_newiZ (n := 96) C hS rfl (by decide) (by show 0 + 1 + 1 ≤ 6; omega) (by show 0 + 30 + 96 ≤ 1266; omega) dX2_init_15 (fun q_8 H hS hq_8 hBq_8 => ?_)
  obtain ⟨σ_9, eσ_9⟩ : ∃ z, z = va_up σ_5 q_8 (some (oI (X.2.2.1 0) 96 (zA (fun _ => 0)))) := ⟨_, rfl⟩
  rw [← eσ_9] at hS
  have he_10 := up_kq eσ_9 hq_8 he_6
  have he_11 := up_kq eσ_9 hq_8 he_7
  have he_12 : σ_9 q_8 = some (oI (X.2.2.1 0) 96 (zA (fun _ => 0))) := by rw [eσ_9]; exact up_s
  have hkeep : ∀ a e, σ a = some e → a ≠ mo → σ_9 a = some e := fun a e h1 h2 => up_kq eσ_9 hq_8 (hkeep a e h1 h2)
  refine gq_X2_13_8 C hnm hS hw he_10 rfl rfl (Nat.le_of_ble_eq_true rfl) dX2_init_17 (fun H locs hS => ?_)
  obtain ⟨σ_13, eσ_13⟩ : ∃ z, z = va_up σ_9 (mo) (some (oO 8 [.int (iI (0)), .int (iI (0)), .ref (q_1), .int (iI (0)), .ref (q_8), .int (iI (0)), .null, .null, .int (iI (0)), .int (iI (0)), .int (iI (0)), .null, .null, .int (iI (0)), .int (iI (0))])) := ⟨_, rfl⟩
  have hS : tl_S X s σ_13 H locs := by rw [eσ_13]; exact hS
  have he_14 : σ_13 (mo) = some (oO 8 [.int (iI (0)), .int (iI (0)), .ref (q_1), .int (iI (0)), .ref (q_8), .int (iI (0)), .null, .null, .int (iI (0)), .int (iI (0)), .int (iI (0)), .null, .null, .int (iI (0)), .int (iI (0))]) := by rw [eσ_13]; exact up_s
  have he_15 := up_kp eσ_13 (Ne.symm (tl_neA he_10 he_11)) he_11
  have he_16 := up_kp eσ_13 (Ne.symm (tl_neA he_10 he_12)) he_12
  have hkeep : ∀ a e, σ a = some e → a ≠ mo → σ_13 a = some e := fun a e h1 h2 => up_kp eσ_13 h2 (hkeep a e h1 h2)
  refine lv_aload_n C.1 C.2.1 dX2_init_20 rfl (lv_at hl 0 rfl) ?_
  refine ti_bipush C.1 C.2.1 dX2_init_21 (by decide) ?_
  refine h_newiZ (n := 48) C hS rfl (by decide) (by show 0 + 1 + 1 + 1 ≤ 6; omega) (by show 0 + 30 + 96 + 48 ≤ 1266; omega) dX2_init_23 (fun q_17 H hS hq_17 hBq_17 => ?_)
  obtain ⟨σ_18, eσ_18⟩ : ∃ z, z = va_up σ_13 q_17 (some (oI (X.2.2.1 0) 48 (zA (fun _ => 0)))) := ⟨_, rfl⟩
  rw [← eσ_18] at hS
  have he_19 := up_kq eσ_18 hq_17 he_14
  have he_20 := up_kq eσ_18 hq_17 he_15
  have he_21 := up_kq eσ_18 hq_17 he_16
  have he_22 : σ_18 q_17 = some (oI (X.2.2.1 0) 48 (zA (fun _ => 0))) := by rw [eσ_18]; exact up_s
  have hkeep : ∀ a e, σ a = some e → a ≠ mo → σ_18 a = some e := fun a e h1 h2 => up_kq eσ_18 hq_17 (hkeep a e h1 h2)
  refine gq_X2_16_8 C hnm hS hw he_19 rfl rfl (Nat.le_of_ble_eq_true rfl) dX2_init_25 (fun H locs hS => ?_)
  obtain ⟨σ_23, eσ_23⟩ : ∃ z, z = va_up σ_18 (mo) (some (oO 8 [.int (iI (0)), .int (iI (0)), .ref (q_1), .int (iI (0)), .ref (q_8), .int (iI (0)), .ref (q_17), .null, .int (iI (0)), .int (iI (0)), .int (iI (0)), .null, .null, .int (iI (0)), .int (iI (0))])) := ⟨_, rfl⟩
  have hS : tl_S X s σ_23 H locs := by rw [eσ_23]; exact hS
  have he_24 : σ_23 (mo) = some (oO 8 [.int (iI (0)), .int (iI (0)), .ref (q_1), .int (iI (0)), .ref (q_8), .int (iI (0)), .ref (q_17), .null, .int (iI (0)), .int (iI (0)), .int (iI (0)), .null, .null, .int (iI (0)), .int (iI (0))]) := by rw [eσ_23]; exact up_s
  have he_25 := up_kp eσ_23 (Ne.symm (tl_neA he_19 he_20)) he_20
  have he_26 := up_kp eσ_23 (Ne.symm (tl_neA he_19 he_21)) he_21
  have he_27 := up_kp eσ_23 (Ne.symm (tl_neA he_19 he_22)) he_22
  have hkeep : ∀ a e, σ a = some e → a ≠ mo → σ_23 a = some e := fun a e h1 h2 => up_kp eσ_23 h2 (hkeep a e h1 h2)
  refine lv_aload_n C.1 C.2.1 dX2_init_28 rfl (lv_at hl 0 rfl) ?_
  refine ti_bipush C.1 C.2.1 dX2_init_29 (by decide) ?_
  refine h_newzZ (n := 12) C hS rfl (by decide) (by show 0 + 1 + 1 + 1 + 1 ≤ 6; omega) (by show 0 + 30 + 96 + 48 + 12 ≤ 1266; omega) dX2_init_31 (fun q_28 H hS hq_28 hBq_28 => ?_)
  obtain ⟨σ_29, eσ_29⟩ : ∃ z, z = va_up σ_23 q_28 (some (oI (X.2.2.1 1) 12 (zA (fun _ => 0)))) := ⟨_, rfl⟩
  rw [← eσ_29] at hS
  have he_30 := up_kq eσ_29 hq_28 he_24
  have he_31 := up_kq eσ_29 hq_28 he_25
  have he_32 := up_kq eσ_29 hq_28 he_26
  have he_33 := up_kq eσ_29 hq_28 he_27
  have he_34 : σ_29 q_28 = some (oI (X.2.2.1 1) 12 (zA (fun _ => 0))) := by rw [eσ_29]; exact up_s
  have hkeep : ∀ a e, σ a = some e → a ≠ mo → σ_29 a = some e := fun a e h1 h2 => up_kq eσ_29 hq_28 (hkeep a e h1 h2)
  refine gq_X2_19_8 C hnm hS hw he_30 rfl rfl (Nat.le_of_ble_eq_true rfl) dX2_init_33 (fun H locs hS => ?_)
  obtain ⟨σ_35, eσ_35⟩ : ∃ z, z = va_up σ_29 (mo) (some (oO 8 [.int (iI (0)), .int (iI (0)), .ref (q_1), .int (iI (0)), .ref (q_8), .int (iI (0)), .ref (q_17), .ref (q_28), .int (iI (0)), .int (iI (0)), .int (iI (0)), .null, .null, .int (iI (0)), .int (iI (0))])) := ⟨_, rfl⟩
  have hS : tl_S X s σ_35 H locs := by rw [eσ_35]; exact hS
  have he_36 : σ_35 (mo) = some (oO 8 [.int (iI (0)), .int (iI (0)), .ref (q_1), .int (iI (0)), .ref (q_8), .int (iI (0)), .ref (q_17), .ref (q_28), .int (iI (0)), .int (iI (0)), .int (iI (0)), .null, .null, .int (iI (0)), .int (iI (0))]) := by rw [eσ_35]; exact up_s
  have he_37 := up_kp eσ_35 (Ne.symm (tl_neA he_30 he_31)) he_31
  have he_38 := up_kp eσ_35 (Ne.symm (tl_neA he_30 he_32)) he_32
  have he_39 := up_kp eσ_35 (Ne.symm (tl_neA he_30 he_33)) he_33
  have he_40 := up_kp eσ_35 (Ne.symm (tl_neA he_30 he_34)) he_34
  have hkeep : ∀ a e, σ a = some e → a ≠ mo → σ_35 a = some e := fun a e h1 h2 => up_kp eσ_35 h2 (hkeep a e h1 h2)
  refine lv_aload_n C.1 C.2.1 dX2_init_36 rfl (lv_at hl 0 rfl) ?_
  refine ti_const C.1 C.2.1 dX2_init_37 ?_
  refine gp_X2_23_8 C hS he_36 rfl rfl (Nat.le_of_ble_eq_true rfl) dX2_init_38 (fun H locs hS => ?_)
  obtain ⟨σ_41, eσ_41⟩ : ∃ z, z = va_up σ_35 (mo) (some (oO 8 [.int (iI (0)), .int (iI (0)), .ref (q_1), .int (iI (0)), .ref (q_8), .int (iI (0)), .ref (q_17), .ref (q_28), .int (iI (3)), .int (iI (0)), .int (iI (0)), .null, .null, .int (iI (0)), .int (iI (0))])) := ⟨_, rfl⟩
  have hS : tl_S X s σ_41 H locs := by rw [eσ_41]; exact hS
  have he_42 : σ_41 (mo) = some (oO 8 [.int (iI (0)), .int (iI (0)), .ref (q_1), .int (iI (0)), .ref (q_8), .int (iI (0)), .ref (q_17), .ref (q_28), .int (iI (3)), .int (iI (0)), .int (iI (0)), .null, .null, .int (iI (0)), .int (iI (0))]) := by rw [eσ_41]; exact up_s
  have he_43 := up_kp eσ_41 (Ne.symm (tl_neA he_36 he_37)) he_37
  have he_44 := up_kp eσ_41 (Ne.symm (tl_neA he_36 he_38)) he_38
  have he_45 := up_kp eσ_41 (Ne.symm (tl_neA he_36 he_39)) he_39
  have he_46 := up_kp eσ_41 (Ne.symm (tl_neA he_36 he_40)) he_40
  have hkeep : ∀ a e, σ a = some e → a ≠ mo → σ_41 a = some e := fun a e h1 h2 => up_kp eσ_41 h2 (hkeep a e h1 h2)
  refine lv_aload_n C.1 C.2.1 dX2_init_41 rfl (lv_at hl 0 rfl) ?_
  refine ti_bipush C.1 C.2.1 dX2_init_42 (by decide) ?_
  refine gp_X2_27_8 C hS he_42 rfl rfl (Nat.le_of_ble_eq_true rfl) dX2_init_44 (fun H locs hS => ?_)
  obtain ⟨σ_47, eσ_47⟩ : ∃ z, z = va_up σ_41 (mo) (some (oO 8 [.int (iI (0)), .int (iI (0)), .ref (q_1), .int (iI (0)), .ref (q_8), .int (iI (0)), .ref (q_17), .ref (q_28), .int (iI (3)), .int (iI (10)), .int (iI (0)), .null, .null, .int (iI (0)), .int (iI (0))])) := ⟨_, rfl⟩
  have hS : tl_S X s σ_47 H locs := by rw [eσ_47]; exact hS
  have he_48 : σ_47 (mo) = some (oO 8 [.int (iI (0)), .int (iI (0)), .ref (q_1), .int (iI (0)), .ref (q_8), .int (iI (0)), .ref (q_17), .ref (q_28), .int (iI (3)), .int (iI (10)), .int (iI (0)), .null, .null, .int (iI (0)), .int (iI (0))]) := by rw [eσ_47]; exact up_s
  have he_49 := up_kp eσ_47 (Ne.symm (tl_neA he_42 he_43)) he_43
  have he_50 := up_kp eσ_47 (Ne.symm (tl_neA he_42 he_44)) he_44
  have he_51 := up_kp eσ_47 (Ne.symm (tl_neA he_42 he_45)) he_45
  have he_52 := up_kp eσ_47 (Ne.symm (tl_neA he_42 he_46)) he_46
  have hkeep : ∀ a e, σ a = some e → a ≠ mo → σ_47 a = some e := fun a e h1 h2 => up_kp eσ_47 h2 (hkeep a e h1 h2)
  refine lv_aload_n C.1 C.2.1 dX2_init_47 rfl (lv_at hl 0 rfl) ?_
  refine ti_sipush C.1 C.2.1 dX2_init_48 (by decide) ?_
  refine h_newiZ (n := 864) C hS rfl (by decide) (by show 0 + 1 + 1 + 1 + 1 + 1 ≤ 6; omega) (by show 0 + 30 + 96 + 48 + 12 + 864 ≤ 1266; omega) dX2_init_51 (fun q_53 H hS hq_53 hBq_53 => ?_)
  obtain ⟨σ_54, eσ_54⟩ : ∃ z, z = va_up σ_47 q_53 (some (oI (X.2.2.1 0) 864 (zA (fun _ => 0)))) := ⟨_, rfl⟩
  rw [← eσ_54] at hS
  have he_55 := up_kq eσ_54 hq_53 he_48
  have he_56 := up_kq eσ_54 hq_53 he_49
  have he_57 := up_kq eσ_54 hq_53 he_50
  have he_58 := up_kq eσ_54 hq_53 he_51
  have he_59 := up_kq eσ_54 hq_53 he_52
  have he_60 : σ_54 q_53 = some (oI (X.2.2.1 0) 864 (zA (fun _ => 0))) := by rw [eσ_54]; exact up_s
  have hkeep : ∀ a e, σ a = some e → a ≠ mo → σ_54 a = some e := fun a e h1 h2 => up_kq eσ_54 hq_53 (hkeep a e h1 h2)
  refine gq_X2_30_8 C hnm hS hw he_55 rfl rfl (Nat.le_of_ble_eq_true rfl) dX2_init_53 (fun H locs hS => ?_)
  obtain ⟨σ_61, eσ_61⟩ : ∃ z, z = va_up σ_54 (mo) (some (oO 8 [.int (iI (0)), .int (iI (0)), .ref (q_1), .int (iI (0)), .ref (q_8), .int (iI (0)), .ref (q_17), .ref (q_28), .int (iI (3)), .int (iI (10)), .int (iI (0)), .ref (q_53), .null, .int (iI (0)), .int (iI (0))])) := ⟨_, rfl⟩
  have hS : tl_S X s σ_61 H locs := by rw [eσ_61]; exact hS
  have he_62 : σ_61 (mo) = some (oO 8 [.int (iI (0)), .int (iI (0)), .ref (q_1), .int (iI (0)), .ref (q_8), .int (iI (0)), .ref (q_17), .ref (q_28), .int (iI (3)), .int (iI (10)), .int (iI (0)), .ref (q_53), .null, .int (iI (0)), .int (iI (0))]) := by rw [eσ_61]; exact up_s
  have he_63 := up_kp eσ_61 (Ne.symm (tl_neA he_55 he_56)) he_56
  have he_64 := up_kp eσ_61 (Ne.symm (tl_neA he_55 he_57)) he_57
  have he_65 := up_kp eσ_61 (Ne.symm (tl_neA he_55 he_58)) he_58
  have he_66 := up_kp eσ_61 (Ne.symm (tl_neA he_55 he_59)) he_59
  have he_67 := up_kp eσ_61 (Ne.symm (tl_neA he_55 he_60)) he_60
  have hkeep : ∀ a e, σ a = some e → a ≠ mo → σ_61 a = some e := fun a e h1 h2 => up_kp eσ_61 h2 (hkeep a e h1 h2)
  refine lv_aload_n C.1 C.2.1 dX2_init_56 rfl (lv_at hl 0 rfl) ?_
  refine ti_sipush C.1 C.2.1 dX2_init_57 (by decide) ?_
  refine h_newzZ (n := 216) C hS rfl (by decide) (by show 0 + 1 + 1 + 1 + 1 + 1 + 1 ≤ 6; omega) (by show 0 + 30 + 96 + 48 + 12 + 864 + 216 ≤ 1266; omega) dX2_init_60 (fun q_68 H hS hq_68 hBq_68 => ?_)
  obtain ⟨σ_69, eσ_69⟩ : ∃ z, z = va_up σ_61 q_68 (some (oI (X.2.2.1 1) 216 (zA (fun _ => 0)))) := ⟨_, rfl⟩
  rw [← eσ_69] at hS
  have he_70 := up_kq eσ_69 hq_68 he_62
  have he_71 := up_kq eσ_69 hq_68 he_63
  have he_72 := up_kq eσ_69 hq_68 he_64
  have he_73 := up_kq eσ_69 hq_68 he_65
  have he_74 := up_kq eσ_69 hq_68 he_66
  have he_75 := up_kq eσ_69 hq_68 he_67
  have he_76 : σ_69 q_68 = some (oI (X.2.2.1 1) 216 (zA (fun _ => 0))) := by rw [eσ_69]; exact up_s
  have hkeep : ∀ a e, σ a = some e → a ≠ mo → σ_69 a = some e := fun a e h1 h2 => up_kq eσ_69 hq_68 (hkeep a e h1 h2)
  refine gq_X2_33_8 C hnm hS hw he_70 rfl rfl (Nat.le_of_ble_eq_true rfl) dX2_init_62 (fun H locs hS => ?_)
  obtain ⟨σ_77, eσ_77⟩ : ∃ z, z = va_up σ_69 (mo) (some (oO 8 [.int (iI (0)), .int (iI (0)), .ref (q_1), .int (iI (0)), .ref (q_8), .int (iI (0)), .ref (q_17), .ref (q_28), .int (iI (3)), .int (iI (10)), .int (iI (0)), .ref (q_53), .ref (q_68), .int (iI (0)), .int (iI (0))])) := ⟨_, rfl⟩
  have hS : tl_S X s σ_77 H locs := by rw [eσ_77]; exact hS
  have he_78 : σ_77 (mo) = some (oO 8 [.int (iI (0)), .int (iI (0)), .ref (q_1), .int (iI (0)), .ref (q_8), .int (iI (0)), .ref (q_17), .ref (q_28), .int (iI (3)), .int (iI (10)), .int (iI (0)), .ref (q_53), .ref (q_68), .int (iI (0)), .int (iI (0))]) := by rw [eσ_77]; exact up_s
  have he_79 := up_kp eσ_77 (Ne.symm (tl_neA he_70 he_71)) he_71
  have he_80 := up_kp eσ_77 (Ne.symm (tl_neA he_70 he_72)) he_72
  have he_81 := up_kp eσ_77 (Ne.symm (tl_neA he_70 he_73)) he_73
  have he_82 := up_kp eσ_77 (Ne.symm (tl_neA he_70 he_74)) he_74
  have he_83 := up_kp eσ_77 (Ne.symm (tl_neA he_70 he_75)) he_75
  have he_84 := up_kp eσ_77 (Ne.symm (tl_neA he_70 he_76)) he_76
  have hkeep : ∀ a e, σ a = some e → a ≠ mo → σ_77 a = some e := fun a e h1 h2 => up_kp eσ_77 h2 (hkeep a e h1 h2)
  have ne_1_0 : q_8 ≠ q_1 := fun z => by have h9 := he_7; rw [← z, hq_8] at h9; cases h9
  have ne_2_0 : q_17 ≠ q_1 := fun z => by have h9 := he_15; rw [← z, hq_17] at h9; cases h9
  have ne_2_1 : q_17 ≠ q_8 := fun z => by have h9 := he_16; rw [← z, hq_17] at h9; cases h9
  have ne_3_0 : q_28 ≠ q_1 := fun z => by have h9 := he_25; rw [← z, hq_28] at h9; cases h9
  have ne_3_1 : q_28 ≠ q_8 := fun z => by have h9 := he_26; rw [← z, hq_28] at h9; cases h9
  have ne_3_2 : q_28 ≠ q_17 := fun z => by have h9 := he_27; rw [← z, hq_28] at h9; cases h9
  have ne_4_0 : q_53 ≠ q_1 := fun z => by have h9 := he_49; rw [← z, hq_53] at h9; cases h9
  have ne_4_1 : q_53 ≠ q_8 := fun z => by have h9 := he_50; rw [← z, hq_53] at h9; cases h9
  have ne_4_2 : q_53 ≠ q_17 := fun z => by have h9 := he_51; rw [← z, hq_53] at h9; cases h9
  have ne_4_3 : q_53 ≠ q_28 := fun z => by have h9 := he_52; rw [← z, hq_53] at h9; cases h9
  have ne_5_0 : q_68 ≠ q_1 := fun z => by have h9 := he_63; rw [← z, hq_68] at h9; cases h9
  have ne_5_1 : q_68 ≠ q_8 := fun z => by have h9 := he_64; rw [← z, hq_68] at h9; cases h9
  have ne_5_2 : q_68 ≠ q_17 := fun z => by have h9 := he_65; rw [← z, hq_68] at h9; cases h9
  have ne_5_3 : q_68 ≠ q_28 := fun z => by have h9 := he_66; rw [← z, hq_68] at h9; cases h9
  have ne_5_4 : q_68 ≠ q_53 := fun z => by have h9 := he_67; rw [← z, hq_68] at h9; cases h9
  have hinj : ∀ i j : Nat, i < 6 → j < 6 → (fun k => match k with | 0 => q_1 | 1 => q_8 | 2 => q_17 | 3 => q_28 | 4 => q_53 | _ => q_68 : Nat → Nat) i = (fun k => match k with | 0 => q_1 | 1 => q_8 | 2 => q_17 | 3 => q_28 | 4 => q_53 | _ => q_68 : Nat → Nat) j → i = j := by
    intro i j hi hj h
    rcases (show i = 0 ∨ i = 1 ∨ i = 2 ∨ i = 3 ∨ i = 4 ∨ i = 5 by omega) with rfl | rfl | rfl | rfl | rfl | rfl <;> rcases (show j = 0 ∨ j = 1 ∨ j = 2 ∨ j = 3 ∨ j = 4 ∨ j = 5 by omega) with rfl | rfl | rfl | rfl | rfl | rfl <;> first | rfl | exact absurd h ne_1_0 | exact absurd h.symm ne_1_0 | exact absurd h ne_2_0 | exact absurd h.symm ne_2_0 | exact absurd h ne_2_1 | exact absurd h.symm ne_2_1 | exact absurd h ne_3_0 | exact absurd h.symm ne_3_0 | exact absurd h ne_3_1 | exact absurd h.symm ne_3_1 | exact absurd h ne_3_2 | exact absurd h.symm ne_3_2 | exact absurd h ne_4_0 | exact absurd h.symm ne_4_0 | exact absurd h ne_4_1 | exact absurd h.symm ne_4_1 | exact absurd h ne_4_2 | exact absurd h.symm ne_4_2 | exact absurd h ne_4_3 | exact absurd h.symm ne_4_3 | exact absurd h ne_5_0 | exact absurd h.symm ne_5_0 | exact absurd h ne_5_1 | exact absurd h.symm ne_5_1 | exact absurd h ne_5_2 | exact absurd h.symm ne_5_2 | exact absurd h ne_5_3 | exact absurd h.symm ne_5_3 | exact absurd h ne_5_4 | exact absurd h.symm ne_5_4
  refine W.widen (k := 6) (n := 1266) (by omega) (by omega) ?_
  exact r_v C hr hlk hS ⟨(fun k => match k with | 0 => q_1 | 1 => q_8 | 2 => q_17 | 3 => q_28 | 4 => q_53 | _ => q_68), ⟨he_78, he_79, he_80, he_81, he_82, he_83, he_84, hinj⟩, hkeep⟩ dX2_init_65

