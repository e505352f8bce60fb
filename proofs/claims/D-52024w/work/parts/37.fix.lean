/-! TREEMAP.fixAfterInsertion (printed by gen_tree6.py) -/
set_option maxRecDepth 100000
theorem fx_in {A C pa : Int → Option Int} {q g k : Int} (h1 : k ≠ q) (h2 : g ≠ q) (h3 : g ≠ k) (h4 : A g = some q) (h5 : C q = some k) (h6 : pa q = some g) (h7 : C k ≠ some q) :
    rlL A q k g = some k ∧ rlP A pa q k k = some g ∧ rlP A pa q k q = some k ∧ rlP (rlR A C q k) (rlP A pa q k) g k q = some k := by
  have h2' := Ne.symm h2
  have h1' := Ne.symm h1
  simp [rlL, rlP, rlR, *]
theorem fx_out {C pa : Int → Option Int} {q g k : Int} (h1 : k ≠ q) (h3 : k ≠ g) (h5 : C q ≠ some k) (h6 : pa k = some q) : rlP C pa g q k = some q := by
  simp [rlP, *]
set_option maxHeartbeats 4000000 in
theorem m_fix (l : Launch) (X : tl_X) (σ : tl_H) (T : Nat) (n md : Int) (ks : Option Nat) (N : Int) (S : Int → Prop) (rt : Option Int) (lf rg pa : Int → Option Int) (lo hi co : Int → Int) (ad kr : Int → Nat) (hT : TM X σ T n md ks S rt lf rg pa co ad kr) (hB : BT N S rt lf rg pa lo hi) (x : Int) (hx : S x) (hxr : rt ≠ some x) (hrb0 : ∀ k, rt = some k → co k = 1) : tl_Met l X yJ21_fixAfterInsertion cJ21_fixAfterInsertion 3 ((Option.none : Option FieldType)) 2 (0) (0) [.ref (T), .ref (ad x)] σ (tl_Qv X (fun σ' => ∃ (rt' : Option Int) (lf' rg' pa' : Int → Option Int) (lo' hi' co' : Int → Int), TM X σ' T n md ks S rt' lf' rg' pa' co' ad kr ∧ BT N S rt' lf' rg' pa' lo' hi' ∧ TF X σ σ' ∧ ∀ k, rt' = some k → co' k = 1)) := by
  obtain ⟨k0, hk0⟩ : ∃ k0, rt = some k0 := by cases h : rt with | none => exact absurd hx (hB.2.2.2.2.2.2.2 h x) | some k => exact ⟨k, rfl⟩
  have sk0 := (hB.2.2.2.2.2.2.1 k0 hk0).1
  have fx : σ (ad x) = some (oO 16 [.ref (kr x), .ref (X.2.2.2 1), va_rf ((lf x).map ad), va_rf ((rg x).map ad), va_rf ((pa x).map ad), .int (iI (co x))]) := (hT.2.1 x hx).1
  refine tl_start (by decide) (Nat.le_of_ble_eq_true rfl) (fun p e s m below meth c ls C hr hml hlk hnm hS hl => ?_)
  have hl : lv_has ls 3 [(0, .ref (T)), (1, .ref (ad x))] := hl
  have hfix := hS.fix
  refine lv_aload_n C.1 C.2.1 dJ21_fixAfterInsertion_0 rfl (lv_at hl 1 rfl) ?_
  refine ti_const C.1 C.2.1 dJ21_fixAfterInsertion_1 ?_
  refine gp_J21_290_16 C hS fx (by decide) (by decide) (Nat.le_of_ble_eq_true rfl) dJ21_fixAfterInsertion_2 (fun H locs hS => ?_)
  obtain ⟨σ_1, eσ_1⟩ : ∃ z, z = va_up σ (ad x) (some (oO 16 [.ref (kr x), .ref (X.2.2.2 1), va_rf ((lf x).map ad), va_rf ((rg x).map ad), va_rf ((pa x).map ad), .int (iI (0))])) := ⟨_, rfl⟩
  have hS : tl_S X s σ_1 H locs := by rw [eσ_1]; exact hS
  have he_2 : σ_1 (ad x) = some (oO 16 [.ref (kr x), .ref (X.2.2.2 1), va_rf ((lf x).map ad), va_rf ((rg x).map ad), va_rf ((pa x).map ad), .int (iI (0))]) := by rw [eσ_1]; exact up_s
  have loop_3 : ∀ (n_4 : Nat) (az : Nat) (kz : Int), S kz ∧ az = ad kz → 2 * N - (hi kz - lo kz) < (n_4 : Int) → ∀ (σc : tl_H) (co1 : Int → Int) (hT1 : TM X σc T n md ks S rt lf rg pa co1 ad kr) (hF1 : TF X σ σc) (hrb : rt = some kz ∨ ∀ k0, rt = some k0 → co1 k0 = 1) (H : Heap) (locs : List Loc) (ls : Array Slot), tl_S X s σc H locs → lv_has ls 3 [(0, .ref (T)), (1, .ref (az))] → W p l e (tl_rm 2 (0) (0)) s m ([.ref (T), .ref (ad x)] : List Value).toArray below meth c H locs (0) (0) (MQ below (tl_Qv X (fun σ' => ∃ (rt' : Option Int) (lf' rg' pa' : Int → Option Int) (lo' hi' co' : Int → Int), TM X σ' T n md ks S rt' lf' rg' pa' co' ad kr ∧ BT N S rt' lf' rg' pa' lo' hi' ∧ TF X σ σ' ∧ ∀ k, rt' = some k → co' k = 1)) ([.ref (T), .ref (ad x)] : List Value).toArray s (0) (0) (tl_A X)) (F0 m 5 ls []) := by
    intro n_4
    induction n_4 with
    | zero => intro az kz hinv hms; have := hB.1 kz hinv.1; omega
    | succ n_4 ih_5 =>
      intro az kz hinv hms_6 σc co1 hT1 hF1 hrb H locs ls hS hl
      obtain ⟨sk, haz⟩ := hinv
      subst haz
      have fT_7 : σc T = some (oO 13 [.null, .null, .null, .ref (ad k0), .int (iI (n)), .int (iI (md)), .null, va_rf (ks), .null]) := by rw [hT1.1, hk0]; rfl
      have fn_8 : σc (ad kz) = some (oO 16 [.ref (kr kz), .ref (X.2.2.2 1), va_rf ((lf kz).map ad), va_rf ((rg kz).map ad), va_rf ((pa kz).map ad), .int (iI (co1 kz))]) := by exact (hT1.2.1 kz sk).1
      refine lv_aload_n C.1 C.2.1 dJ21_fixAfterInsertion_5 rfl (lv_at hl 1 rfl) ?_
      refine lv_ifnull C.1 C.2.1 dJ21_fixAfterInsertion_6 ?_
      refine lv_aload_n C.1 C.2.1 dJ21_fixAfterInsertion_9 rfl (lv_at hl 1 rfl) ?_
      refine lv_aload_n C.1 C.2.1 dJ21_fixAfterInsertion_10 rfl (lv_at hl 0 rfl) ?_
      refine gf_J21_101_13 C hS fT_7 rfl dJ21_fixAfterInsertion_11 ?_
      refine lv_acmp_eq (tgt := 258) (rx := (some (ad kz))) (ry := (some (ad k0))) C.1 C.2.1 dJ21_fixAfterInsertion_14 (by decide) (fun hc_9 => ?_) (fun hc_9 => ?_)
      · skip
        have fT_10 : σc T = some (oO 13 [.null, .null, .null, .ref (ad k0), .int (iI (n)), .int (iI (md)), .null, va_rf (ks), .null]) := by rw [hT1.1, hk0]; rfl
        have fn_11 : σc (ad k0) = some (oO 16 [.ref (kr k0), .ref (X.2.2.2 1), va_rf ((lf k0).map ad), va_rf ((rg k0).map ad), va_rf ((pa k0).map ad), .int (iI (co1 k0))]) := by exact (hT1.2.1 k0 sk0).1
        refine lv_aload_n C.1 C.2.1 dJ21_fixAfterInsertion_258 rfl (lv_at hl 0 rfl) ?_
        refine gf_J21_101_13 C hS fT_10 rfl dJ21_fixAfterInsertion_259 ?_
        refine ti_const C.1 C.2.1 dJ21_fixAfterInsertion_262 ?_
        refine gp_J21_290_16 C hS fn_11 (by decide) (by decide) (Nat.le_of_ble_eq_true rfl) dJ21_fixAfterInsertion_263 (fun H locs hS => ?_)
        obtain ⟨σ_12, eσ_12⟩ : ∃ z, z = va_up σc (ad k0) (some (oO 16 [.ref (kr k0), .ref (X.2.2.2 1), va_rf ((lf k0).map ad), va_rf ((rg k0).map ad), va_rf ((pa k0).map ad), .int (iI (1))])) := ⟨_, rfl⟩
        have hS : tl_S X s σ_12 H locs := by rw [eσ_12]; exact hS
        have he_13 := up_kp eσ_12 (tl_ne fT_10 fn_11 (by decide)) fT_10
        have he_14 : σ_12 (ad k0) = some (oO 16 [.ref (kr k0), .ref (X.2.2.2 1), va_rf ((lf k0).map ad), va_rf ((rg k0).map ad), va_rf ((pa k0).map ad), .int (iI (1))]) := by rw [eσ_12]; exact up_s
        exact r_v C hr hlk hS ⟨rt, lf, rg, pa, lo, hi, fup co1 k0 1, TM.color hT1 sk0 (Or.inr rfl) eσ_12, hB, TF.up hF1 (hT1.2.1 k0 sk0).1 (Or.inr rfl) eσ_12 hS.fix, (fun k h => by rw [hk0] at h; cases h; exact fup_s)⟩ dJ21_fixAfterInsertion_266
      · skip
        have hkn : kz ≠ k0 := fun z => hc_9 (by rw [z])
        obtain ⟨q, hpq⟩ : ∃ q, pa kz = some q := by cases h : pa kz with | none => exact absurd (Option.some.inj (((hB.2.2.2.2.2.1 kz sk).2 h).symm.trans hk0)) hkn | some q => exact ⟨q, rfl⟩
        obtain ⟨sq, cq⟩ := (hB.2.2.2.2.2.1 kz sk).1 q hpq
        have c01 := (hT1.2.1 q sq).2.2
        have fT_15 : σc T = some (oO 13 [.null, .null, .null, .ref (ad k0), .int (iI (n)), .int (iI (md)), .null, va_rf (ks), .null]) := by rw [hT1.1, hk0]; rfl
        have fn_16 : σc (ad kz) = some (oO 16 [.ref (kr kz), .ref (X.2.2.2 1), va_rf ((lf kz).map ad), va_rf ((rg kz).map ad), .ref (ad q), .int (iI (co1 kz))]) := by rw [(hT1.2.1 kz sk).1, hpq]; rfl
        have fn_17 : σc (ad q) = some (oO 16 [.ref (kr q), .ref (X.2.2.2 1), va_rf ((lf q).map ad), va_rf ((rg q).map ad), va_rf ((pa q).map ad), .int (iI (co1 q))]) := by exact (hT1.2.1 q sq).1
        refine lv_aload_n C.1 C.2.1 dJ21_fixAfterInsertion_17 rfl (lv_at hl 1 rfl) ?_
        refine gf_J21_124_16 C hS fn_16 rfl dJ21_fixAfterInsertion_18 ?_
        refine gf_J21_290_16 C hS fn_17 rfl dJ21_fixAfterInsertion_21 ?_
        refine ti_if_ne (tgt := 258) C.1 C.2.1 dJ21_fixAfterInsertion_24 (by decide) ⟨by omega, by omega⟩ (fun hc_18 => ?_) (fun hc_18 => ?_)
        · skip
          have fT_19 : σc T = some (oO 13 [.null, .null, .null, .ref (ad k0), .int (iI (n)), .int (iI (md)), .null, va_rf (ks), .null]) := by rw [hT1.1, hk0]; rfl
          have fn_20 : σc (ad k0) = some (oO 16 [.ref (kr k0), .ref (X.2.2.2 1), va_rf ((lf k0).map ad), va_rf ((rg k0).map ad), va_rf ((pa k0).map ad), .int (iI (co1 k0))]) := by exact (hT1.2.1 k0 sk0).1
          refine lv_aload_n C.1 C.2.1 dJ21_fixAfterInsertion_258 rfl (lv_at hl 0 rfl) ?_
          refine gf_J21_101_13 C hS fT_19 rfl dJ21_fixAfterInsertion_259 ?_
          refine ti_const C.1 C.2.1 dJ21_fixAfterInsertion_262 ?_
          refine gp_J21_290_16 C hS fn_20 (by decide) (by decide) (Nat.le_of_ble_eq_true rfl) dJ21_fixAfterInsertion_263 (fun H locs hS => ?_)
          obtain ⟨σ_21, eσ_21⟩ : ∃ z, z = va_up σc (ad k0) (some (oO 16 [.ref (kr k0), .ref (X.2.2.2 1), va_rf ((lf k0).map ad), va_rf ((rg k0).map ad), va_rf ((pa k0).map ad), .int (iI (1))])) := ⟨_, rfl⟩
          have hS : tl_S X s σ_21 H locs := by rw [eσ_21]; exact hS
          have he_22 := up_kp eσ_21 (tl_ne fT_19 fn_20 (by decide)) fT_19
          have he_23 : σ_21 (ad k0) = some (oO 16 [.ref (kr k0), .ref (X.2.2.2 1), va_rf ((lf k0).map ad), va_rf ((rg k0).map ad), va_rf ((pa k0).map ad), .int (iI (1))]) := by rw [eσ_21]; exact up_s
          exact r_v C hr hlk hS ⟨rt, lf, rg, pa, lo, hi, fup co1 k0 1, TM.color hT1 sk0 (Or.inr rfl) eσ_21, hB, TF.up hF1 (hT1.2.1 k0 sk0).1 (Or.inr rfl) eσ_21 hS.fix, (fun k h => by rw [hk0] at h; cases h; exact fup_s)⟩ dJ21_fixAfterInsertion_266
        · skip
          have hqk : q ≠ k0 := fun z => by
            rcases hrb with u | u
            · exact hkn (Option.some.inj (u.symm.trans hk0))
            · have := u k0 hk0; rw [← z] at this; omega
          obtain ⟨g, hpg⟩ : ∃ g, pa q = some g := by cases h : pa q with | none => exact absurd (Option.some.inj (((hB.2.2.2.2.2.1 q sq).2 h).symm.trans hk0)) hqk | some g => exact ⟨g, rfl⟩
          obtain ⟨sg, cg⟩ := (hB.2.2.2.2.2.1 q sq).1 g hpg
          have bz := hB.1 kz sk
          have bq := hB.1 q sq
          have bg := hB.1 g sg
          have dz : hi kz - lo kz < hi q - lo q := by
            rcases cq with v | v
            · obtain ⟨-, -, v1, v2⟩ := (hB.2.2.2.1 q sq).1 kz v; omega
            · obtain ⟨-, -, v1, v2⟩ := (hB.2.2.2.2.1 q sq).1 kz v; omega
          rcases cg with hgq | hgq
          · skip
            obtain ⟨-, -, eq1, eq2⟩ := (hB.2.2.2.1 g sg).1 q hgq
            have fT_24 : σc T = some (oO 13 [.null, .null, .null, .ref (ad k0), .int (iI (n)), .int (iI (md)), .null, va_rf (ks), .null]) := by rw [hT1.1, hk0]; rfl
            have fn_25 : σc (ad kz) = some (oO 16 [.ref (kr kz), .ref (X.2.2.2 1), va_rf ((lf kz).map ad), va_rf ((rg kz).map ad), .ref (ad q), .int (iI (co1 kz))]) := by rw [(hT1.2.1 kz sk).1, hpq]; rfl
            have fn_26 : σc (ad q) = some (oO 16 [.ref (kr q), .ref (X.2.2.2 1), va_rf ((lf q).map ad), va_rf ((rg q).map ad), .ref (ad g), .int (iI (co1 q))]) := by rw [(hT1.2.1 q sq).1, hpg]; rfl
            have fn_27 : σc (ad g) = some (oO 16 [.ref (kr g), .ref (X.2.2.2 1), .ref (ad q), va_rf ((rg g).map ad), va_rf ((pa g).map ad), .int (iI (co1 g))]) := by rw [(hT1.2.1 g sg).1, hgq]; rfl
            refine lv_aload_n C.1 C.2.1 dJ21_fixAfterInsertion_27 rfl (lv_at hl 1 rfl) ?_
            refine tl_cq (t_S (n := 1) C hml hS (m_parentOf_r l X σc (ad kz) (kr kz) (X.2.2.2 1) ((lf kz).map ad) ((rg kz).map ad) (some (ad q)) (co1 kz) fn_25) q775 q776 q74 q777 (by decide +kernel) rfl hl.1 rfl (Nat.le_of_ble_eq_true rfl) dJ21_fixAfterInsertion_28 ⟨Nat.le_of_ble_eq_true rfl, Nat.le_of_ble_eq_true rfl⟩ ⟨Nat.le_refl _, Nat.le_refl _⟩) hS (fun r_28 σ_30 H locs hP_29 hS => ?_)
            obtain ⟨rfl, rfl⟩ := hP_29
            refine lv_aload_n C.1 C.2.1 dJ21_fixAfterInsertion_31 rfl (lv_at hl 1 rfl) ?_
            refine tl_cq (t_S (n := 1) C hml hS (m_parentOf_r l X σc (ad kz) (kr kz) (X.2.2.2 1) ((lf kz).map ad) ((rg kz).map ad) (some (ad q)) (co1 kz) fn_25) q775 q776 q74 q777 (by decide +kernel) rfl hl.1 rfl (Nat.le_of_ble_eq_true rfl) dJ21_fixAfterInsertion_32 ⟨Nat.le_of_ble_eq_true rfl, Nat.le_of_ble_eq_true rfl⟩ ⟨Nat.le_refl _, Nat.le_refl _⟩) hS (fun r_31 σ_33 H locs hP_32 hS => ?_)
            obtain ⟨rfl, rfl⟩ := hP_32
            refine tl_cq (t_S (n := 1) C hml hS (m_parentOf_r l X σc (ad q) (kr q) (X.2.2.2 1) ((lf q).map ad) ((rg q).map ad) (some (ad g)) (co1 q) fn_26) q775 q776 q74 q777 (by decide +kernel) rfl hl.1 rfl (Nat.le_of_ble_eq_true rfl) dJ21_fixAfterInsertion_35 ⟨Nat.le_of_ble_eq_true rfl, Nat.le_of_ble_eq_true rfl⟩ ⟨Nat.le_refl _, Nat.le_refl _⟩) hS (fun r_34 σ_36 H locs hP_35 hS => ?_)
            obtain ⟨rfl, rfl⟩ := hP_35
            refine tl_cq (t_S (n := 1) C hml hS (m_leftOf_r l X σc (ad g) (kr g) (X.2.2.2 1) (some (ad q)) ((rg g).map ad) ((pa g).map ad) (co1 g) fn_27) q778 q779 q74 q780 (by decide +kernel) rfl hl.1 rfl (Nat.le_of_ble_eq_true rfl) dJ21_fixAfterInsertion_38 ⟨Nat.le_of_ble_eq_true rfl, Nat.le_of_ble_eq_true rfl⟩ ⟨Nat.le_refl _, Nat.le_refl _⟩) hS (fun r_37 σ_39 H locs hP_38 hS => ?_)
            obtain ⟨rfl, rfl⟩ := hP_38
            refine lv_acmp_ne (tgt := 151) (rx := (some (ad q))) (ry := (some (ad q))) C.1 C.2.1 dJ21_fixAfterInsertion_41 (by decide) (fun hc_40 => ?_) (fun hc_40 => ?_)
            · skip
              exact absurd rfl hc_40
            · skip
              cases hgu : rg g with
              | none =>
                have fT_41 : σc T = some (oO 13 [.null, .null, .null, .ref (ad k0), .int (iI (n)), .int (iI (md)), .null, va_rf (ks), .null]) := by rw [hT1.1, hk0]; rfl
                have fn_42 : σc (ad kz) = some (oO 16 [.ref (kr kz), .ref (X.2.2.2 1), va_rf ((lf kz).map ad), va_rf ((rg kz).map ad), .ref (ad q), .int (iI (co1 kz))]) := by rw [(hT1.2.1 kz sk).1, hpq]; rfl
                have fn_43 : σc (ad q) = some (oO 16 [.ref (kr q), .ref (X.2.2.2 1), va_rf ((lf q).map ad), va_rf ((rg q).map ad), .ref (ad g), .int (iI (co1 q))]) := by rw [(hT1.2.1 q sq).1, hpg]; rfl
                have fn_44 : σc (ad g) = some (oO 16 [.ref (kr g), .ref (X.2.2.2 1), .ref (ad q), .null, va_rf ((pa g).map ad), .int (iI (co1 g))]) := by rw [(hT1.2.1 g sg).1, hgq, hgu]; rfl
                refine lv_aload_n C.1 C.2.1 dJ21_fixAfterInsertion_44 rfl (lv_at hl 1 rfl) ?_
                refine tl_cq (t_S (n := 1) C hml hS (m_parentOf_r l X σc (ad kz) (kr kz) (X.2.2.2 1) ((lf kz).map ad) ((rg kz).map ad) (some (ad q)) (co1 kz) fn_42) q775 q776 q74 q777 (by decide +kernel) rfl hl.1 rfl (Nat.le_of_ble_eq_true rfl) dJ21_fixAfterInsertion_45 ⟨Nat.le_of_ble_eq_true rfl, Nat.le_of_ble_eq_true rfl⟩ ⟨Nat.le_refl _, Nat.le_refl _⟩) hS (fun r_45 σ_47 H locs hP_46 hS => ?_)
                obtain ⟨rfl, rfl⟩ := hP_46
                refine tl_cq (t_S (n := 1) C hml hS (m_parentOf_r l X σc (ad q) (kr q) (X.2.2.2 1) ((lf q).map ad) ((rg q).map ad) (some (ad g)) (co1 q) fn_43) q775 q776 q74 q777 (by decide +kernel) rfl hl.1 rfl (Nat.le_of_ble_eq_true rfl) dJ21_fixAfterInsertion_48 ⟨Nat.le_of_ble_eq_true rfl, Nat.le_of_ble_eq_true rfl⟩ ⟨Nat.le_refl _, Nat.le_refl _⟩) hS (fun r_48 σ_50 H locs hP_49 hS => ?_)
                obtain ⟨rfl, rfl⟩ := hP_49
                refine tl_cq (t_S (n := 1) C hml hS (m_rightOf_r l X σc (ad g) (kr g) (X.2.2.2 1) (some (ad q)) none ((pa g).map ad) (co1 g) fn_44) q781 q782 q74 q783 (by decide +kernel) rfl hl.1 rfl (Nat.le_of_ble_eq_true rfl) dJ21_fixAfterInsertion_51 ⟨Nat.le_of_ble_eq_true rfl, Nat.le_of_ble_eq_true rfl⟩ ⟨Nat.le_refl _, Nat.le_refl _⟩) hS (fun r_51 σ_53 H locs hP_52 hS => ?_)
                obtain ⟨rfl, rfl⟩ := hP_52
                refine lv_astore_nN (lv' := [(2, .null), (0, .ref (T)), (1, .ref (ad kz))]) C.1 C.2.1 dJ21_fixAfterInsertion_54 rfl hl (by decide) rfl (fun ls hl => ?_)
                refine lv_aload_nN C.1 C.2.1 dJ21_fixAfterInsertion_55 rfl (lv_at hl 0 rfl) ?_
                refine tl_ci (t_S (n := 1) C hml hS (m_colorOf_n l X σc) q784 q785 q74 q786 (by decide +kernel) rfl hl.1 rfl (Nat.le_of_ble_eq_true rfl) dJ21_fixAfterInsertion_56 ⟨Nat.le_of_ble_eq_true rfl, Nat.le_of_ble_eq_true rfl⟩ ⟨Nat.le_refl _, Nat.le_refl _⟩) hS (fun r_54 σ_56 H locs hP_55 hS => ?_)
                obtain ⟨rfl, rfl⟩ := hP_55
                refine ti_if_ne (tgt := 97) C.1 C.2.1 dJ21_fixAfterInsertion_59 (by decide) ⟨by decide, by decide⟩ (fun hc_57 => ?_) (fun hc_57 => ?_)
                · skip
                  by_cases hin : rg q = some kz
                  · skip
                    obtain ⟨-, -, ei1, ei2⟩ := (hB.2.2.2.2.1 q sq).1 kz hin
                    have hCk : rg kz ≠ some q := fun z => by obtain ⟨-, u1, -, -⟩ := (hB.2.2.2.2.1 kz sk).1 q z; rw [hpg] at u1; have := Option.some.inj u1; omega
                    obtain ⟨i1, i2, i3, i4⟩ := fx_in (A := lf) (C := rg) (pa := pa) (q := q) (g := g) (k := kz) (by omega) (by omega) (by omega) hgq hin hpg hCk
                    have fT_58 : σc T = some (oO 13 [.null, .null, .null, .ref (ad k0), .int (iI (n)), .int (iI (md)), .null, va_rf (ks), .null]) := by rw [hT1.1, hk0]; rfl
                    have fn_59 : σc (ad kz) = some (oO 16 [.ref (kr kz), .ref (X.2.2.2 1), va_rf ((lf kz).map ad), va_rf ((rg kz).map ad), .ref (ad q), .int (iI (co1 kz))]) := by rw [(hT1.2.1 kz sk).1, hpq]; rfl
                    have fn_60 : σc (ad q) = some (oO 16 [.ref (kr q), .ref (X.2.2.2 1), va_rf ((lf q).map ad), .ref (ad kz), .ref (ad g), .int (iI (co1 q))]) := by rw [(hT1.2.1 q sq).1, hin, hpg]; rfl
                    have fn_61 : σc (ad g) = some (oO 16 [.ref (kr g), .ref (X.2.2.2 1), .ref (ad q), va_rf ((rg g).map ad), va_rf ((pa g).map ad), .int (iI (co1 g))]) := by rw [(hT1.2.1 g sg).1, hgq]; rfl
                    refine lv_aload_n C.1 C.2.1 dJ21_fixAfterInsertion_97 rfl (lv_at hl 2 rfl) ?_
                    refine lv_aload_n C.1 C.2.1 dJ21_fixAfterInsertion_98 rfl (lv_at hl 2 rfl) ?_
                    refine tl_cq (t_S (n := 1) C hml hS (m_parentOf_r l X σc (ad kz) (kr kz) (X.2.2.2 1) ((lf kz).map ad) ((rg kz).map ad) (some (ad q)) (co1 kz) fn_59) q775 q776 q74 q777 (by decide +kernel) rfl hl.1 rfl (Nat.le_of_ble_eq_true rfl) dJ21_fixAfterInsertion_99 ⟨Nat.le_of_ble_eq_true rfl, Nat.le_of_ble_eq_true rfl⟩ ⟨Nat.le_refl _, Nat.le_refl _⟩) hS (fun r_62 σ_64 H locs hP_63 hS => ?_)
                    obtain ⟨rfl, rfl⟩ := hP_63
                    refine tl_cq (t_S (n := 1) C hml hS (m_rightOf_r l X σc (ad q) (kr q) (X.2.2.2 1) ((lf q).map ad) (some (ad kz)) (some (ad g)) (co1 q) fn_60) q781 q782 q74 q783 (by decide +kernel) rfl hl.1 rfl (Nat.le_of_ble_eq_true rfl) dJ21_fixAfterInsertion_102 ⟨Nat.le_of_ble_eq_true rfl, Nat.le_of_ble_eq_true rfl⟩ ⟨Nat.le_refl _, Nat.le_refl _⟩) hS (fun r_65 σ_67 H locs hP_66 hS => ?_)
                    obtain ⟨rfl, rfl⟩ := hP_66
                    refine lv_acmp_ne (tgt := 118) (rx := (some (ad kz))) (ry := (some (ad kz))) C.1 C.2.1 dJ21_fixAfterInsertion_105 (by decide) (fun hc_68 => ?_) (fun hc_68 => ?_)
                    · skip
                      exact absurd rfl hc_68
                    · skip
                      refine lv_aload_n C.1 C.2.1 dJ21_fixAfterInsertion_108 rfl (lv_at hl 2 rfl) ?_
                      refine tl_cq (t_S (n := 1) C hml hS (m_parentOf_r l X σc (ad kz) (kr kz) (X.2.2.2 1) ((lf kz).map ad) ((rg kz).map ad) (some (ad q)) (co1 kz) fn_59) q775 q776 q74 q777 (by decide +kernel) rfl hl.1 rfl (Nat.le_of_ble_eq_true rfl) dJ21_fixAfterInsertion_109 ⟨Nat.le_of_ble_eq_true rfl, Nat.le_of_ble_eq_true rfl⟩ ⟨Nat.le_refl _, Nat.le_refl _⟩) hS (fun r_69 σ_71 H locs hP_70 hS => ?_)
                      obtain ⟨rfl, rfl⟩ := hP_70
                      refine lv_astore_n (lv' := [(1, .ref (ad q)), (2, .null), (0, .ref (T))]) C.1 C.2.1 dJ21_fixAfterInsertion_112 rfl hl (by decide) rfl (fun ls hl => ?_)
                      refine lv_aload_n C.1 C.2.1 dJ21_fixAfterInsertion_113 rfl (lv_at hl 2 rfl) ?_
                      refine lv_aload_n C.1 C.2.1 dJ21_fixAfterInsertion_114 rfl (lv_at hl 0 rfl) ?_
                      refine tl_cv (t_V (n := 1) (ci := 13) C hml hS (m_rotL l X σc T n md ks N S rt lf rg pa lo hi co1 ad kr hT1 hB q kz sq hin) q790 q792 qs8 q74 q793 (by decide +kernel) fT_58 rfl rfl hl.1 rfl (Nat.le_of_ble_eq_true rfl) dJ21_fixAfterInsertion_115 ⟨Nat.le_of_ble_eq_true rfl, Nat.le_of_ble_eq_true rfl⟩ ⟨Nat.le_refl _, Nat.le_refl _⟩) hS (fun σ_74 H locs hP_73 hS => ?_)
                      obtain ⟨hT_75, hF_76⟩ := hP_73
                      have hF_76 := hF1.tr hF_76
                      have hB_77 := hB.rotL sq hin
                      obtain ⟨kr__78, hk_79⟩ : ∃ k, (rlT rt q kz) = some k := by cases h : (rlT rt q kz) with | none => exact absurd sk (hB_77.2.2.2.2.2.2.2 h kz) | some k => exact ⟨k, rfl⟩
                      have sk_80 := (hB_77.2.2.2.2.2.2.1 kr__78 hk_79).1
                      have fT_81 : σ_74 T = some (oO 13 [.null, .null, .null, .ref (ad kr__78), .int (iI (n)), .int (iI (md)), .null, va_rf (ks), .null]) := by rw [hT_75.1, hk_79]; rfl
                      have fn_82 : σ_74 (ad kz) = some (oO 16 [.ref (kr kz), .ref (X.2.2.2 1), va_rf (((rlL lf q kz) kz).map ad), va_rf (((rlR lf rg q kz) kz).map ad), .ref (ad g), .int (iI (co1 kz))]) := by rw [(hT_75.2.1 kz sk).1, i2]; rfl
                      have fn_83 : σ_74 (ad q) = some (oO 16 [.ref (kr q), .ref (X.2.2.2 1), va_rf (((rlL lf q kz) q).map ad), va_rf (((rlR lf rg q kz) q).map ad), .ref (ad kz), .int (iI (co1 q))]) := by rw [(hT_75.2.1 q sq).1, i3]; rfl
                      have fn_84 : σ_74 (ad g) = some (oO 16 [.ref (kr g), .ref (X.2.2.2 1), .ref (ad kz), va_rf (((rlR lf rg q kz) g).map ad), va_rf (((rlP lf pa q kz) g).map ad), .int (iI (co1 g))]) := by rw [(hT_75.2.1 g sg).1, i1]; rfl
                      refine lv_aload_n C.1 C.2.1 dJ21_fixAfterInsertion_118 rfl (lv_at hl 0 rfl) ?_
                      refine tl_cq (t_S (n := 1) C hml hS (m_parentOf_r l X σ_74 (ad q) (kr q) (X.2.2.2 1) (((rlL lf q kz) q).map ad) (((rlR lf rg q kz) q).map ad) (some (ad kz)) (co1 q) fn_83) q775 q776 q74 q777 (by decide +kernel) rfl hl.1 rfl (Nat.le_of_ble_eq_true rfl) dJ21_fixAfterInsertion_119 ⟨Nat.le_of_ble_eq_true rfl, Nat.le_of_ble_eq_true rfl⟩ ⟨Nat.le_refl _, Nat.le_refl _⟩) hS (fun r_85 σ_87 H locs hP_86 hS => ?_)
                      obtain ⟨rfl, rfl⟩ := hP_86
                      refine ti_const C.1 C.2.1 dJ21_fixAfterInsertion_122 ?_
                      refine tl_cv (t_S (n := 2) C hml hS (m_setColor l X σ_74 (ad kz) (kr kz) (X.2.2.2 1) (((rlL lf q kz) kz).map ad) (((rlR lf rg q kz) kz).map ad) (((rlP lf pa q kz) kz).map ad) (co1 kz) (hT_75.2.1 kz sk).1 1 (by decide)) q787 q788 q74 q789 (by decide +kernel) rfl hl.1 rfl (Nat.le_of_ble_eq_true rfl) dJ21_fixAfterInsertion_123 ⟨Nat.le_of_ble_eq_true rfl, Nat.le_of_ble_eq_true rfl⟩ ⟨Nat.le_refl _, Nat.le_refl _⟩) hS (fun σ_90 H locs hP_89 hS => ?_)
                      have hF_93 := TF.up hF_76 (hT_75.2.1 kz sk).1 (Or.inr rfl) hP_89 hS.fix
                      have hT_91 := TM.color hT_75 sk (c2 := 1) (Or.inr rfl) hP_89
                      obtain ⟨co_92, eco_92⟩ : ∃ z, z = fup co1 kz 1 := ⟨_, rfl⟩
                      rw [← eco_92] at hT_91
                      have hcol_94 : co_92 kz = 1 := by rw [eco_92, fup_s]
                      have fT_95 : σ_90 T = some (oO 13 [.null, .null, .null, .ref (ad kr__78), .int (iI (n)), .int (iI (md)), .null, va_rf (ks), .null]) := by rw [hT_91.1, hk_79]; rfl
                      have fn_96 : σ_90 (ad kz) = some (oO 16 [.ref (kr kz), .ref (X.2.2.2 1), va_rf (((rlL lf q kz) kz).map ad), va_rf (((rlR lf rg q kz) kz).map ad), .ref (ad g), .int (iI (co_92 kz))]) := by rw [(hT_91.2.1 kz sk).1, i2]; rfl
                      have fn_97 : σ_90 (ad q) = some (oO 16 [.ref (kr q), .ref (X.2.2.2 1), va_rf (((rlL lf q kz) q).map ad), va_rf (((rlR lf rg q kz) q).map ad), .ref (ad kz), .int (iI (co_92 q))]) := by rw [(hT_91.2.1 q sq).1, i3]; rfl
                      have fn_98 : σ_90 (ad g) = some (oO 16 [.ref (kr g), .ref (X.2.2.2 1), .ref (ad kz), va_rf (((rlR lf rg q kz) g).map ad), va_rf (((rlP lf pa q kz) g).map ad), .int (iI (co_92 g))]) := by rw [(hT_91.2.1 g sg).1, i1]; rfl
                      refine lv_aload_n C.1 C.2.1 dJ21_fixAfterInsertion_126 rfl (lv_at hl 0 rfl) ?_
                      refine tl_cq (t_S (n := 1) C hml hS (m_parentOf_r l X σ_90 (ad q) (kr q) (X.2.2.2 1) (((rlL lf q kz) q).map ad) (((rlR lf rg q kz) q).map ad) (some (ad kz)) (co_92 q) fn_97) q775 q776 q74 q777 (by decide +kernel) rfl hl.1 rfl (Nat.le_of_ble_eq_true rfl) dJ21_fixAfterInsertion_127 ⟨Nat.le_of_ble_eq_true rfl, Nat.le_of_ble_eq_true rfl⟩ ⟨Nat.le_refl _, Nat.le_refl _⟩) hS (fun r_99 σ_101 H locs hP_100 hS => ?_)
                      obtain ⟨rfl, rfl⟩ := hP_100
                      refine tl_cq (t_S (n := 1) C hml hS (m_parentOf_r l X σ_90 (ad kz) (kr kz) (X.2.2.2 1) (((rlL lf q kz) kz).map ad) (((rlR lf rg q kz) kz).map ad) (some (ad g)) (co_92 kz) fn_96) q775 q776 q74 q777 (by decide +kernel) rfl hl.1 rfl (Nat.le_of_ble_eq_true rfl) dJ21_fixAfterInsertion_130 ⟨Nat.le_of_ble_eq_true rfl, Nat.le_of_ble_eq_true rfl⟩ ⟨Nat.le_refl _, Nat.le_refl _⟩) hS (fun r_102 σ_104 H locs hP_103 hS => ?_)
                      obtain ⟨rfl, rfl⟩ := hP_103
                      refine ti_const C.1 C.2.1 dJ21_fixAfterInsertion_133 ?_
                      refine tl_cv (t_S (n := 2) C hml hS (m_setColor l X σ_90 (ad g) (kr g) (X.2.2.2 1) (((rlL lf q kz) g).map ad) (((rlR lf rg q kz) g).map ad) (((rlP lf pa q kz) g).map ad) (co_92 g) (hT_91.2.1 g sg).1 0 (by decide)) q787 q788 q74 q789 (by decide +kernel) rfl hl.1 rfl (Nat.le_of_ble_eq_true rfl) dJ21_fixAfterInsertion_134 ⟨Nat.le_of_ble_eq_true rfl, Nat.le_of_ble_eq_true rfl⟩ ⟨Nat.le_refl _, Nat.le_refl _⟩) hS (fun σ_107 H locs hP_106 hS => ?_)
                      have hF_110 := TF.up hF_93 (hT_91.2.1 g sg).1 (Or.inr rfl) hP_106 hS.fix
                      have hT_108 := TM.color hT_91 sg (c2 := 0) (Or.inl rfl) hP_106
                      obtain ⟨co_109, eco_109⟩ : ∃ z, z = fup co_92 g 0 := ⟨_, rfl⟩
                      rw [← eco_109] at hT_108
                      have hcol_111 : co_109 kz = 1 := by rw [eco_109, fup_n (by omega)]; exact hcol_94
                      have hcol_112 : co_109 g = 0 := by rw [eco_109, fup_s]
                      have fT_113 : σ_107 T = some (oO 13 [.null, .null, .null, .ref (ad kr__78), .int (iI (n)), .int (iI (md)), .null, va_rf (ks), .null]) := by rw [hT_108.1, hk_79]; rfl
                      have fn_114 : σ_107 (ad kz) = some (oO 16 [.ref (kr kz), .ref (X.2.2.2 1), va_rf (((rlL lf q kz) kz).map ad), va_rf (((rlR lf rg q kz) kz).map ad), .ref (ad g), .int (iI (co_109 kz))]) := by rw [(hT_108.2.1 kz sk).1, i2]; rfl
                      have fn_115 : σ_107 (ad q) = some (oO 16 [.ref (kr q), .ref (X.2.2.2 1), va_rf (((rlL lf q kz) q).map ad), va_rf (((rlR lf rg q kz) q).map ad), .ref (ad kz), .int (iI (co_109 q))]) := by rw [(hT_108.2.1 q sq).1, i3]; rfl
                      have fn_116 : σ_107 (ad g) = some (oO 16 [.ref (kr g), .ref (X.2.2.2 1), .ref (ad kz), va_rf (((rlR lf rg q kz) g).map ad), va_rf (((rlP lf pa q kz) g).map ad), .int (iI (co_109 g))]) := by rw [(hT_108.2.1 g sg).1, i1]; rfl
                      refine lv_aload_n C.1 C.2.1 dJ21_fixAfterInsertion_137 rfl (lv_at hl 2 rfl) ?_
                      refine lv_aload_n C.1 C.2.1 dJ21_fixAfterInsertion_138 rfl (lv_at hl 0 rfl) ?_
                      refine tl_cq (t_S (n := 1) C hml hS (m_parentOf_r l X σ_107 (ad q) (kr q) (X.2.2.2 1) (((rlL lf q kz) q).map ad) (((rlR lf rg q kz) q).map ad) (some (ad kz)) (co_109 q) fn_115) q775 q776 q74 q777 (by decide +kernel) rfl hl.1 rfl (Nat.le_of_ble_eq_true rfl) dJ21_fixAfterInsertion_139 ⟨Nat.le_of_ble_eq_true rfl, Nat.le_of_ble_eq_true rfl⟩ ⟨Nat.le_refl _, Nat.le_refl _⟩) hS (fun r_117 σ_119 H locs hP_118 hS => ?_)
                      obtain ⟨rfl, rfl⟩ := hP_118
                      refine tl_cq (t_S (n := 1) C hml hS (m_parentOf_r l X σ_107 (ad kz) (kr kz) (X.2.2.2 1) (((rlL lf q kz) kz).map ad) (((rlR lf rg q kz) kz).map ad) (some (ad g)) (co_109 kz) fn_114) q775 q776 q74 q777 (by decide +kernel) rfl hl.1 rfl (Nat.le_of_ble_eq_true rfl) dJ21_fixAfterInsertion_142 ⟨Nat.le_of_ble_eq_true rfl, Nat.le_of_ble_eq_true rfl⟩ ⟨Nat.le_refl _, Nat.le_refl _⟩) hS (fun r_120 σ_122 H locs hP_121 hS => ?_)
                      obtain ⟨rfl, rfl⟩ := hP_121
                      refine tl_cv (t_V (n := 1) (ci := 13) C hml hS (m_rotR l X σ_107 T n md ks N S (rlT rt q kz) (rlL lf q kz) (rlR lf rg q kz) (rlP lf pa q kz) (fup lo kz (lo q)) (fup hi q kz) co_109 ad kr hT_108 hB_77 g kz sg i1) q794 q796 qs9 q74 q797 (by decide +kernel) fT_113 rfl rfl hl.1 rfl (Nat.le_of_ble_eq_true rfl) dJ21_fixAfterInsertion_145 ⟨Nat.le_of_ble_eq_true rfl, Nat.le_of_ble_eq_true rfl⟩ ⟨Nat.le_refl _, Nat.le_refl _⟩) hS (fun σ_125 H locs hP_124 hS => ?_)
                      obtain ⟨hT_126, hF_127⟩ := hP_124
                      have hF_127 := hF_110.tr hF_127
                      have hB_128 := hB_77.rotR sg i1
                      obtain ⟨kr__129, hk_130⟩ : ∃ k, (rlT (rlT rt q kz) g kz) = some k := by cases h : (rlT (rlT rt q kz) g kz) with | none => exact absurd sk (hB_128.2.2.2.2.2.2.2 h kz) | some k => exact ⟨k, rfl⟩
                      have sk_131 := (hB_128.2.2.2.2.2.2.1 kr__129 hk_130).1
                      have fT_132 : σ_125 T = some (oO 13 [.null, .null, .null, .ref (ad kr__129), .int (iI (n)), .int (iI (md)), .null, va_rf (ks), .null]) := by rw [hT_126.1, hk_130]; rfl
                      have fn_133 : σ_125 (ad kz) = some (oO 16 [.ref (kr kz), .ref (X.2.2.2 1), va_rf (((rlR (rlR lf rg q kz) (rlL lf q kz) g kz) kz).map ad), va_rf (((rlL (rlR lf rg q kz) g kz) kz).map ad), va_rf (((rlP (rlR lf rg q kz) (rlP lf pa q kz) g kz) kz).map ad), .int (iI (co_109 kz))]) := by exact (hT_126.2.1 kz sk).1
                      have fn_134 : σ_125 (ad q) = some (oO 16 [.ref (kr q), .ref (X.2.2.2 1), va_rf (((rlR (rlR lf rg q kz) (rlL lf q kz) g kz) q).map ad), va_rf (((rlL (rlR lf rg q kz) g kz) q).map ad), .ref (ad kz), .int (iI (co_109 q))]) := by rw [(hT_126.2.1 q sq).1, i4]; rfl
                      have fn_135 : σ_125 (ad g) = some (oO 16 [.ref (kr g), .ref (X.2.2.2 1), va_rf (((rlR (rlR lf rg q kz) (rlL lf q kz) g kz) g).map ad), va_rf (((rlL (rlR lf rg q kz) g kz) g).map ad), va_rf (((rlP (rlR lf rg q kz) (rlP lf pa q kz) g kz) g).map ad), .int (iI (co_109 g))]) := by exact (hT_126.2.1 g sg).1
                      refine lv_goto (tgt := 5) C.1 C.2.1 dJ21_fixAfterInsertion_148 (by decide) ?_
                      refine lv_aload_n C.1 C.2.1 dJ21_fixAfterInsertion_5 rfl (lv_at hl 0 rfl) ?_
                      refine lv_ifnull C.1 C.2.1 dJ21_fixAfterInsertion_6 ?_
                      refine lv_aload_n C.1 C.2.1 dJ21_fixAfterInsertion_9 rfl (lv_at hl 0 rfl) ?_
                      refine lv_aload_n C.1 C.2.1 dJ21_fixAfterInsertion_10 rfl (lv_at hl 2 rfl) ?_
                      refine gf_J21_101_13 C hS fT_132 rfl dJ21_fixAfterInsertion_11 ?_
                      refine lv_acmp_eq (tgt := 258) (rx := (some (ad q))) (ry := (some (ad kr__129))) C.1 C.2.1 dJ21_fixAfterInsertion_14 (by decide) (fun hc_136 => ?_) (fun hc_136 => ?_)
                      · skip
                        have fT_137 : σ_125 T = some (oO 13 [.null, .null, .null, .ref (ad kr__129), .int (iI (n)), .int (iI (md)), .null, va_rf (ks), .null]) := by rw [hT_126.1, hk_130]; rfl
                        have fn_138 : σ_125 (ad kr__129) = some (oO 16 [.ref (kr kr__129), .ref (X.2.2.2 1), va_rf (((rlR (rlR lf rg q kz) (rlL lf q kz) g kz) kr__129).map ad), va_rf (((rlL (rlR lf rg q kz) g kz) kr__129).map ad), va_rf (((rlP (rlR lf rg q kz) (rlP lf pa q kz) g kz) kr__129).map ad), .int (iI (co_109 kr__129))]) := by exact (hT_126.2.1 kr__129 sk_131).1
                        refine lv_aload_n C.1 C.2.1 dJ21_fixAfterInsertion_258 rfl (lv_at hl 2 rfl) ?_
                        refine gf_J21_101_13 C hS fT_137 rfl dJ21_fixAfterInsertion_259 ?_
                        refine ti_const C.1 C.2.1 dJ21_fixAfterInsertion_262 ?_
                        refine gp_J21_290_16 C hS fn_138 (by decide) (by decide) (Nat.le_of_ble_eq_true rfl) dJ21_fixAfterInsertion_263 (fun H locs hS => ?_)
                        obtain ⟨σ_139, eσ_139⟩ : ∃ z, z = va_up σ_125 (ad kr__129) (some (oO 16 [.ref (kr kr__129), .ref (X.2.2.2 1), va_rf (((rlR (rlR lf rg q kz) (rlL lf q kz) g kz) kr__129).map ad), va_rf (((rlL (rlR lf rg q kz) g kz) kr__129).map ad), va_rf (((rlP (rlR lf rg q kz) (rlP lf pa q kz) g kz) kr__129).map ad), .int (iI (1))])) := ⟨_, rfl⟩
                        have hS : tl_S X s σ_139 H locs := by rw [eσ_139]; exact hS
                        have he_140 := up_kp eσ_139 (tl_ne fT_137 fn_138 (by decide)) fT_137
                        have he_141 : σ_139 (ad kr__129) = some (oO 16 [.ref (kr kr__129), .ref (X.2.2.2 1), va_rf (((rlR (rlR lf rg q kz) (rlL lf q kz) g kz) kr__129).map ad), va_rf (((rlL (rlR lf rg q kz) g kz) kr__129).map ad), va_rf (((rlP (rlR lf rg q kz) (rlP lf pa q kz) g kz) kr__129).map ad), .int (iI (1))]) := by rw [eσ_139]; exact up_s
                        exact r_v C hr hlk hS ⟨(rlT (rlT rt q kz) g kz), (rlR (rlR lf rg q kz) (rlL lf q kz) g kz), (rlL (rlR lf rg q kz) g kz), (rlP (rlR lf rg q kz) (rlP lf pa q kz) g kz), (fup (fup lo kz (lo q)) g kz), (fup (fup hi q kz) kz ((fup hi q kz) g)), fup co_109 kr__129 1, TM.color hT_126 sk_131 (Or.inr rfl) eσ_139, hB_128, TF.up hF_127 (hT_126.2.1 kr__129 sk_131).1 (Or.inr rfl) eσ_139 hS.fix, (fun k h => by rw [hk_130] at h; cases h; exact fup_s)⟩ dJ21_fixAfterInsertion_266
                      · skip
                        refine lv_aload_n C.1 C.2.1 dJ21_fixAfterInsertion_17 rfl (lv_at hl 0 rfl) ?_
                        refine gf_J21_124_16 C hS fn_134 rfl dJ21_fixAfterInsertion_18 ?_
                        refine gf_J21_290_16 C hS fn_133 rfl dJ21_fixAfterInsertion_21 ?_
                        refine ti_if_ne (tgt := 258) C.1 C.2.1 dJ21_fixAfterInsertion_24 (by decide) ⟨by omega, by omega⟩ (fun hc_142 => ?_) (fun hc_142 => ?_)
                        · skip
                          have fT_143 : σ_125 T = some (oO 13 [.null, .null, .null, .ref (ad kr__129), .int (iI (n)), .int (iI (md)), .null, va_rf (ks), .null]) := by rw [hT_126.1, hk_130]; rfl
                          have fn_144 : σ_125 (ad kr__129) = some (oO 16 [.ref (kr kr__129), .ref (X.2.2.2 1), va_rf (((rlR (rlR lf rg q kz) (rlL lf q kz) g kz) kr__129).map ad), va_rf (((rlL (rlR lf rg q kz) g kz) kr__129).map ad), va_rf (((rlP (rlR lf rg q kz) (rlP lf pa q kz) g kz) kr__129).map ad), .int (iI (co_109 kr__129))]) := by exact (hT_126.2.1 kr__129 sk_131).1
                          refine lv_aload_n C.1 C.2.1 dJ21_fixAfterInsertion_258 rfl (lv_at hl 2 rfl) ?_
                          refine gf_J21_101_13 C hS fT_143 rfl dJ21_fixAfterInsertion_259 ?_
                          refine ti_const C.1 C.2.1 dJ21_fixAfterInsertion_262 ?_
                          refine gp_J21_290_16 C hS fn_144 (by decide) (by decide) (Nat.le_of_ble_eq_true rfl) dJ21_fixAfterInsertion_263 (fun H locs hS => ?_)
                          obtain ⟨σ_145, eσ_145⟩ : ∃ z, z = va_up σ_125 (ad kr__129) (some (oO 16 [.ref (kr kr__129), .ref (X.2.2.2 1), va_rf (((rlR (rlR lf rg q kz) (rlL lf q kz) g kz) kr__129).map ad), va_rf (((rlL (rlR lf rg q kz) g kz) kr__129).map ad), va_rf (((rlP (rlR lf rg q kz) (rlP lf pa q kz) g kz) kr__129).map ad), .int (iI (1))])) := ⟨_, rfl⟩
                          have hS : tl_S X s σ_145 H locs := by rw [eσ_145]; exact hS
                          have he_146 := up_kp eσ_145 (tl_ne fT_143 fn_144 (by decide)) fT_143
                          have he_147 : σ_145 (ad kr__129) = some (oO 16 [.ref (kr kr__129), .ref (X.2.2.2 1), va_rf (((rlR (rlR lf rg q kz) (rlL lf q kz) g kz) kr__129).map ad), va_rf (((rlL (rlR lf rg q kz) g kz) kr__129).map ad), va_rf (((rlP (rlR lf rg q kz) (rlP lf pa q kz) g kz) kr__129).map ad), .int (iI (1))]) := by rw [eσ_145]; exact up_s
                          exact r_v C hr hlk hS ⟨(rlT (rlT rt q kz) g kz), (rlR (rlR lf rg q kz) (rlL lf q kz) g kz), (rlL (rlR lf rg q kz) g kz), (rlP (rlR lf rg q kz) (rlP lf pa q kz) g kz), (fup (fup lo kz (lo q)) g kz), (fup (fup hi q kz) kz ((fup hi q kz) g)), fup co_109 kr__129 1, TM.color hT_126 sk_131 (Or.inr rfl) eσ_145, hB_128, TF.up hF_127 (hT_126.2.1 kr__129 sk_131).1 (Or.inr rfl) eσ_145 hS.fix, (fun k h => by rw [hk_130] at h; cases h; exact fup_s)⟩ dJ21_fixAfterInsertion_266
                        · skip
                          exfalso; omega
                  · skip
                    have hou : lf q = some kz := cq.resolve_right hin
                    obtain ⟨-, -, ei1, ei2⟩ := (hB.2.2.2.1 q sq).1 kz hou
                    have o1 := fx_out (C := rg) (pa := pa) (q := q) (g := g) (k := kz) (by omega) (by omega) hin hpq
                    have fT_148 : σc T = some (oO 13 [.null, .null, .null, .ref (ad k0), .int (iI (n)), .int (iI (md)), .null, va_rf (ks), .null]) := by rw [hT1.1, hk0]; rfl
                    have fn_149 : σc (ad kz) = some (oO 16 [.ref (kr kz), .ref (X.2.2.2 1), va_rf ((lf kz).map ad), va_rf ((rg kz).map ad), .ref (ad q), .int (iI (co1 kz))]) := by rw [(hT1.2.1 kz sk).1, hpq]; rfl
                    have fn_150 : σc (ad q) = some (oO 16 [.ref (kr q), .ref (X.2.2.2 1), va_rf ((lf q).map ad), va_rf ((rg q).map ad), .ref (ad g), .int (iI (co1 q))]) := by rw [(hT1.2.1 q sq).1, hpg]; rfl
                    have fn_151 : σc (ad g) = some (oO 16 [.ref (kr g), .ref (X.2.2.2 1), .ref (ad q), va_rf ((rg g).map ad), va_rf ((pa g).map ad), .int (iI (co1 g))]) := by rw [(hT1.2.1 g sg).1, hgq]; rfl
                    refine lv_aload_n C.1 C.2.1 dJ21_fixAfterInsertion_97 rfl (lv_at hl 2 rfl) ?_
                    refine lv_aload_n C.1 C.2.1 dJ21_fixAfterInsertion_98 rfl (lv_at hl 2 rfl) ?_
                    refine tl_cq (t_S (n := 1) C hml hS (m_parentOf_r l X σc (ad kz) (kr kz) (X.2.2.2 1) ((lf kz).map ad) ((rg kz).map ad) (some (ad q)) (co1 kz) fn_149) q775 q776 q74 q777 (by decide +kernel) rfl hl.1 rfl (Nat.le_of_ble_eq_true rfl) dJ21_fixAfterInsertion_99 ⟨Nat.le_of_ble_eq_true rfl, Nat.le_of_ble_eq_true rfl⟩ ⟨Nat.le_refl _, Nat.le_refl _⟩) hS (fun r_152 σ_154 H locs hP_153 hS => ?_)
                    obtain ⟨rfl, rfl⟩ := hP_153
                    refine tl_cq (t_S (n := 1) C hml hS (m_rightOf_r l X σc (ad q) (kr q) (X.2.2.2 1) ((lf q).map ad) ((rg q).map ad) (some (ad g)) (co1 q) fn_150) q781 q782 q74 q783 (by decide +kernel) rfl hl.1 rfl (Nat.le_of_ble_eq_true rfl) dJ21_fixAfterInsertion_102 ⟨Nat.le_of_ble_eq_true rfl, Nat.le_of_ble_eq_true rfl⟩ ⟨Nat.le_refl _, Nat.le_refl _⟩) hS (fun r_155 σ_157 H locs hP_156 hS => ?_)
                    obtain ⟨rfl, rfl⟩ := hP_156
                    refine lv_acmp_ne (tgt := 118) (rx := (some (ad kz))) (ry := ((rg q).map ad)) C.1 C.2.1 dJ21_fixAfterInsertion_105 (by decide) (fun hc_158 => ?_) (fun hc_158 => ?_)
                    · skip
                      refine lv_aload_n C.1 C.2.1 dJ21_fixAfterInsertion_118 rfl (lv_at hl 2 rfl) ?_
                      refine tl_cq (t_S (n := 1) C hml hS (m_parentOf_r l X σc (ad kz) (kr kz) (X.2.2.2 1) ((lf kz).map ad) ((rg kz).map ad) (some (ad q)) (co1 kz) fn_149) q775 q776 q74 q777 (by decide +kernel) rfl hl.1 rfl (Nat.le_of_ble_eq_true rfl) dJ21_fixAfterInsertion_119 ⟨Nat.le_of_ble_eq_true rfl, Nat.le_of_ble_eq_true rfl⟩ ⟨Nat.le_refl _, Nat.le_refl _⟩) hS (fun r_159 σ_161 H locs hP_160 hS => ?_)
                      obtain ⟨rfl, rfl⟩ := hP_160
                      refine ti_const C.1 C.2.1 dJ21_fixAfterInsertion_122 ?_
                      refine tl_cv (t_S (n := 2) C hml hS (m_setColor l X σc (ad q) (kr q) (X.2.2.2 1) ((lf q).map ad) ((rg q).map ad) ((pa q).map ad) (co1 q) (hT1.2.1 q sq).1 1 (by decide)) q787 q788 q74 q789 (by decide +kernel) rfl hl.1 rfl (Nat.le_of_ble_eq_true rfl) dJ21_fixAfterInsertion_123 ⟨Nat.le_of_ble_eq_true rfl, Nat.le_of_ble_eq_true rfl⟩ ⟨Nat.le_refl _, Nat.le_refl _⟩) hS (fun σ_164 H locs hP_163 hS => ?_)
                      have hF_167 := TF.up hF1 (hT1.2.1 q sq).1 (Or.inr rfl) hP_163 hS.fix
                      have hT_165 := TM.color hT1 sq (c2 := 1) (Or.inr rfl) hP_163
                      obtain ⟨co_166, eco_166⟩ : ∃ z, z = fup co1 q 1 := ⟨_, rfl⟩
                      rw [← eco_166] at hT_165
                      have hcol_168 : co_166 q = 1 := by rw [eco_166, fup_s]
                      have fT_169 : σ_164 T = some (oO 13 [.null, .null, .null, .ref (ad k0), .int (iI (n)), .int (iI (md)), .null, va_rf (ks), .null]) := by rw [hT_165.1, hk0]; rfl
                      have fn_170 : σ_164 (ad kz) = some (oO 16 [.ref (kr kz), .ref (X.2.2.2 1), va_rf ((lf kz).map ad), va_rf ((rg kz).map ad), .ref (ad q), .int (iI (co_166 kz))]) := by rw [(hT_165.2.1 kz sk).1, hpq]; rfl
                      have fn_171 : σ_164 (ad q) = some (oO 16 [.ref (kr q), .ref (X.2.2.2 1), va_rf ((lf q).map ad), va_rf ((rg q).map ad), .ref (ad g), .int (iI (co_166 q))]) := by rw [(hT_165.2.1 q sq).1, hpg]; rfl
                      have fn_172 : σ_164 (ad g) = some (oO 16 [.ref (kr g), .ref (X.2.2.2 1), .ref (ad q), va_rf ((rg g).map ad), va_rf ((pa g).map ad), .int (iI (co_166 g))]) := by rw [(hT_165.2.1 g sg).1, hgq]; rfl
                      refine lv_aload_n C.1 C.2.1 dJ21_fixAfterInsertion_126 rfl (lv_at hl 2 rfl) ?_
                      refine tl_cq (t_S (n := 1) C hml hS (m_parentOf_r l X σ_164 (ad kz) (kr kz) (X.2.2.2 1) ((lf kz).map ad) ((rg kz).map ad) (some (ad q)) (co_166 kz) fn_170) q775 q776 q74 q777 (by decide +kernel) rfl hl.1 rfl (Nat.le_of_ble_eq_true rfl) dJ21_fixAfterInsertion_127 ⟨Nat.le_of_ble_eq_true rfl, Nat.le_of_ble_eq_true rfl⟩ ⟨Nat.le_refl _, Nat.le_refl _⟩) hS (fun r_173 σ_175 H locs hP_174 hS => ?_)
                      obtain ⟨rfl, rfl⟩ := hP_174
                      refine tl_cq (t_S (n := 1) C hml hS (m_parentOf_r l X σ_164 (ad q) (kr q) (X.2.2.2 1) ((lf q).map ad) ((rg q).map ad) (some (ad g)) (co_166 q) fn_171) q775 q776 q74 q777 (by decide +kernel) rfl hl.1 rfl (Nat.le_of_ble_eq_true rfl) dJ21_fixAfterInsertion_130 ⟨Nat.le_of_ble_eq_true rfl, Nat.le_of_ble_eq_true rfl⟩ ⟨Nat.le_refl _, Nat.le_refl _⟩) hS (fun r_176 σ_178 H locs hP_177 hS => ?_)
                      obtain ⟨rfl, rfl⟩ := hP_177
                      refine ti_const C.1 C.2.1 dJ21_fixAfterInsertion_133 ?_
                      refine tl_cv (t_S (n := 2) C hml hS (m_setColor l X σ_164 (ad g) (kr g) (X.2.2.2 1) ((lf g).map ad) ((rg g).map ad) ((pa g).map ad) (co_166 g) (hT_165.2.1 g sg).1 0 (by decide)) q787 q788 q74 q789 (by decide +kernel) rfl hl.1 rfl (Nat.le_of_ble_eq_true rfl) dJ21_fixAfterInsertion_134 ⟨Nat.le_of_ble_eq_true rfl, Nat.le_of_ble_eq_true rfl⟩ ⟨Nat.le_refl _, Nat.le_refl _⟩) hS (fun σ_181 H locs hP_180 hS => ?_)
                      have hF_184 := TF.up hF_167 (hT_165.2.1 g sg).1 (Or.inr rfl) hP_180 hS.fix
                      have hT_182 := TM.color hT_165 sg (c2 := 0) (Or.inl rfl) hP_180
                      obtain ⟨co_183, eco_183⟩ : ∃ z, z = fup co_166 g 0 := ⟨_, rfl⟩
                      rw [← eco_183] at hT_182
                      have hcol_185 : co_183 q = 1 := by rw [eco_183, fup_n (by omega)]; exact hcol_168
                      have hcol_186 : co_183 g = 0 := by rw [eco_183, fup_s]
                      have fT_187 : σ_181 T = some (oO 13 [.null, .null, .null, .ref (ad k0), .int (iI (n)), .int (iI (md)), .null, va_rf (ks), .null]) := by rw [hT_182.1, hk0]; rfl
                      have fn_188 : σ_181 (ad kz) = some (oO 16 [.ref (kr kz), .ref (X.2.2.2 1), va_rf ((lf kz).map ad), va_rf ((rg kz).map ad), .ref (ad q), .int (iI (co_183 kz))]) := by rw [(hT_182.2.1 kz sk).1, hpq]; rfl
                      have fn_189 : σ_181 (ad q) = some (oO 16 [.ref (kr q), .ref (X.2.2.2 1), va_rf ((lf q).map ad), va_rf ((rg q).map ad), .ref (ad g), .int (iI (co_183 q))]) := by rw [(hT_182.2.1 q sq).1, hpg]; rfl
                      have fn_190 : σ_181 (ad g) = some (oO 16 [.ref (kr g), .ref (X.2.2.2 1), .ref (ad q), va_rf ((rg g).map ad), va_rf ((pa g).map ad), .int (iI (co_183 g))]) := by rw [(hT_182.2.1 g sg).1, hgq]; rfl
                      refine lv_aload_n C.1 C.2.1 dJ21_fixAfterInsertion_137 rfl (lv_at hl 1 rfl) ?_
                      refine lv_aload_n C.1 C.2.1 dJ21_fixAfterInsertion_138 rfl (lv_at hl 2 rfl) ?_
                      refine tl_cq (t_S (n := 1) C hml hS (m_parentOf_r l X σ_181 (ad kz) (kr kz) (X.2.2.2 1) ((lf kz).map ad) ((rg kz).map ad) (some (ad q)) (co_183 kz) fn_188) q775 q776 q74 q777 (by decide +kernel) rfl hl.1 rfl (Nat.le_of_ble_eq_true rfl) dJ21_fixAfterInsertion_139 ⟨Nat.le_of_ble_eq_true rfl, Nat.le_of_ble_eq_true rfl⟩ ⟨Nat.le_refl _, Nat.le_refl _⟩) hS (fun r_191 σ_193 H locs hP_192 hS => ?_)
                      obtain ⟨rfl, rfl⟩ := hP_192
                      refine tl_cq (t_S (n := 1) C hml hS (m_parentOf_r l X σ_181 (ad q) (kr q) (X.2.2.2 1) ((lf q).map ad) ((rg q).map ad) (some (ad g)) (co_183 q) fn_189) q775 q776 q74 q777 (by decide +kernel) rfl hl.1 rfl (Nat.le_of_ble_eq_true rfl) dJ21_fixAfterInsertion_142 ⟨Nat.le_of_ble_eq_true rfl, Nat.le_of_ble_eq_true rfl⟩ ⟨Nat.le_refl _, Nat.le_refl _⟩) hS (fun r_194 σ_196 H locs hP_195 hS => ?_)
                      obtain ⟨rfl, rfl⟩ := hP_195
                      refine tl_cv (t_V (n := 1) (ci := 13) C hml hS (m_rotR l X σ_181 T n md ks N S rt lf rg pa lo hi co_183 ad kr hT_182 hB g q sg hgq) q794 q796 qs9 q74 q797 (by decide +kernel) fT_187 rfl rfl hl.1 rfl (Nat.le_of_ble_eq_true rfl) dJ21_fixAfterInsertion_145 ⟨Nat.le_of_ble_eq_true rfl, Nat.le_of_ble_eq_true rfl⟩ ⟨Nat.le_refl _, Nat.le_refl _⟩) hS (fun σ_199 H locs hP_198 hS => ?_)
                      obtain ⟨hT_200, hF_201⟩ := hP_198
                      have hF_201 := hF_184.tr hF_201
                      have hB_202 := hB.rotR sg hgq
                      obtain ⟨kr__203, hk_204⟩ : ∃ k, (rlT rt g q) = some k := by cases h : (rlT rt g q) with | none => exact absurd sk (hB_202.2.2.2.2.2.2.2 h kz) | some k => exact ⟨k, rfl⟩
                      have sk_205 := (hB_202.2.2.2.2.2.2.1 kr__203 hk_204).1
                      have fT_206 : σ_199 T = some (oO 13 [.null, .null, .null, .ref (ad kr__203), .int (iI (n)), .int (iI (md)), .null, va_rf (ks), .null]) := by rw [hT_200.1, hk_204]; rfl
                      have fn_207 : σ_199 (ad kz) = some (oO 16 [.ref (kr kz), .ref (X.2.2.2 1), va_rf (((rlR rg lf g q) kz).map ad), va_rf (((rlL rg g q) kz).map ad), .ref (ad q), .int (iI (co_183 kz))]) := by rw [(hT_200.2.1 kz sk).1, o1]; rfl
                      have fn_208 : σ_199 (ad q) = some (oO 16 [.ref (kr q), .ref (X.2.2.2 1), va_rf (((rlR rg lf g q) q).map ad), va_rf (((rlL rg g q) q).map ad), va_rf (((rlP rg pa g q) q).map ad), .int (iI (co_183 q))]) := by exact (hT_200.2.1 q sq).1
                      have fn_209 : σ_199 (ad g) = some (oO 16 [.ref (kr g), .ref (X.2.2.2 1), va_rf (((rlR rg lf g q) g).map ad), va_rf (((rlL rg g q) g).map ad), va_rf (((rlP rg pa g q) g).map ad), .int (iI (co_183 g))]) := by exact (hT_200.2.1 g sg).1
                      refine lv_goto (tgt := 5) C.1 C.2.1 dJ21_fixAfterInsertion_148 (by decide) ?_
                      refine lv_aload_n C.1 C.2.1 dJ21_fixAfterInsertion_5 rfl (lv_at hl 2 rfl) ?_
                      refine lv_ifnull C.1 C.2.1 dJ21_fixAfterInsertion_6 ?_
                      refine lv_aload_n C.1 C.2.1 dJ21_fixAfterInsertion_9 rfl (lv_at hl 2 rfl) ?_
                      refine lv_aload_n C.1 C.2.1 dJ21_fixAfterInsertion_10 rfl (lv_at hl 1 rfl) ?_
                      refine gf_J21_101_13 C hS fT_206 rfl dJ21_fixAfterInsertion_11 ?_
                      refine lv_acmp_eq (tgt := 258) (rx := (some (ad kz))) (ry := (some (ad kr__203))) C.1 C.2.1 dJ21_fixAfterInsertion_14 (by decide) (fun hc_210 => ?_) (fun hc_210 => ?_)
                      · skip
                        have fT_211 : σ_199 T = some (oO 13 [.null, .null, .null, .ref (ad kr__203), .int (iI (n)), .int (iI (md)), .null, va_rf (ks), .null]) := by rw [hT_200.1, hk_204]; rfl
                        have fn_212 : σ_199 (ad kr__203) = some (oO 16 [.ref (kr kr__203), .ref (X.2.2.2 1), va_rf (((rlR rg lf g q) kr__203).map ad), va_rf (((rlL rg g q) kr__203).map ad), va_rf (((rlP rg pa g q) kr__203).map ad), .int (iI (co_183 kr__203))]) := by exact (hT_200.2.1 kr__203 sk_205).1
                        refine lv_aload_n C.1 C.2.1 dJ21_fixAfterInsertion_258 rfl (lv_at hl 1 rfl) ?_
                        refine gf_J21_101_13 C hS fT_211 rfl dJ21_fixAfterInsertion_259 ?_
                        refine ti_const C.1 C.2.1 dJ21_fixAfterInsertion_262 ?_
                        refine gp_J21_290_16 C hS fn_212 (by decide) (by decide) (Nat.le_of_ble_eq_true rfl) dJ21_fixAfterInsertion_263 (fun H locs hS => ?_)
                        obtain ⟨σ_213, eσ_213⟩ : ∃ z, z = va_up σ_199 (ad kr__203) (some (oO 16 [.ref (kr kr__203), .ref (X.2.2.2 1), va_rf (((rlR rg lf g q) kr__203).map ad), va_rf (((rlL rg g q) kr__203).map ad), va_rf (((rlP rg pa g q) kr__203).map ad), .int (iI (1))])) := ⟨_, rfl⟩
                        have hS : tl_S X s σ_213 H locs := by rw [eσ_213]; exact hS
                        have he_214 := up_kp eσ_213 (tl_ne fT_211 fn_212 (by decide)) fT_211
                        have he_215 : σ_213 (ad kr__203) = some (oO 16 [.ref (kr kr__203), .ref (X.2.2.2 1), va_rf (((rlR rg lf g q) kr__203).map ad), va_rf (((rlL rg g q) kr__203).map ad), va_rf (((rlP rg pa g q) kr__203).map ad), .int (iI (1))]) := by rw [eσ_213]; exact up_s
                        exact r_v C hr hlk hS ⟨(rlT rt g q), (rlR rg lf g q), (rlL rg g q), (rlP rg pa g q), (fup lo g q), (fup hi q (hi g)), fup co_183 kr__203 1, TM.color hT_200 sk_205 (Or.inr rfl) eσ_213, hB_202, TF.up hF_201 (hT_200.2.1 kr__203 sk_205).1 (Or.inr rfl) eσ_213 hS.fix, (fun k h => by rw [hk_204] at h; cases h; exact fup_s)⟩ dJ21_fixAfterInsertion_266
                      · skip
                        refine lv_aload_n C.1 C.2.1 dJ21_fixAfterInsertion_17 rfl (lv_at hl 2 rfl) ?_
                        refine gf_J21_124_16 C hS fn_207 rfl dJ21_fixAfterInsertion_18 ?_
                        refine gf_J21_290_16 C hS fn_208 rfl dJ21_fixAfterInsertion_21 ?_
                        refine ti_if_ne (tgt := 258) C.1 C.2.1 dJ21_fixAfterInsertion_24 (by decide) ⟨by omega, by omega⟩ (fun hc_216 => ?_) (fun hc_216 => ?_)
                        · skip
                          have fT_217 : σ_199 T = some (oO 13 [.null, .null, .null, .ref (ad kr__203), .int (iI (n)), .int (iI (md)), .null, va_rf (ks), .null]) := by rw [hT_200.1, hk_204]; rfl
                          have fn_218 : σ_199 (ad kr__203) = some (oO 16 [.ref (kr kr__203), .ref (X.2.2.2 1), va_rf (((rlR rg lf g q) kr__203).map ad), va_rf (((rlL rg g q) kr__203).map ad), va_rf (((rlP rg pa g q) kr__203).map ad), .int (iI (co_183 kr__203))]) := by exact (hT_200.2.1 kr__203 sk_205).1
                          refine lv_aload_n C.1 C.2.1 dJ21_fixAfterInsertion_258 rfl (lv_at hl 1 rfl) ?_
                          refine gf_J21_101_13 C hS fT_217 rfl dJ21_fixAfterInsertion_259 ?_
                          refine ti_const C.1 C.2.1 dJ21_fixAfterInsertion_262 ?_
                          refine gp_J21_290_16 C hS fn_218 (by decide) (by decide) (Nat.le_of_ble_eq_true rfl) dJ21_fixAfterInsertion_263 (fun H locs hS => ?_)
                          obtain ⟨σ_219, eσ_219⟩ : ∃ z, z = va_up σ_199 (ad kr__203) (some (oO 16 [.ref (kr kr__203), .ref (X.2.2.2 1), va_rf (((rlR rg lf g q) kr__203).map ad), va_rf (((rlL rg g q) kr__203).map ad), va_rf (((rlP rg pa g q) kr__203).map ad), .int (iI (1))])) := ⟨_, rfl⟩
                          have hS : tl_S X s σ_219 H locs := by rw [eσ_219]; exact hS
                          have he_220 := up_kp eσ_219 (tl_ne fT_217 fn_218 (by decide)) fT_217
                          have he_221 : σ_219 (ad kr__203) = some (oO 16 [.ref (kr kr__203), .ref (X.2.2.2 1), va_rf (((rlR rg lf g q) kr__203).map ad), va_rf (((rlL rg g q) kr__203).map ad), va_rf (((rlP rg pa g q) kr__203).map ad), .int (iI (1))]) := by rw [eσ_219]; exact up_s
                          exact r_v C hr hlk hS ⟨(rlT rt g q), (rlR rg lf g q), (rlL rg g q), (rlP rg pa g q), (fup lo g q), (fup hi q (hi g)), fup co_183 kr__203 1, TM.color hT_200 sk_205 (Or.inr rfl) eσ_219, hB_202, TF.up hF_201 (hT_200.2.1 kr__203 sk_205).1 (Or.inr rfl) eσ_219 hS.fix, (fun k h => by rw [hk_204] at h; cases h; exact fup_s)⟩ dJ21_fixAfterInsertion_266
                        · skip
                          exfalso; omega
                    · skip
                      exact absurd hc_158.symm (fun z => by obtain ⟨u, u1, u2⟩ := Option.map_eq_some_iff.mp z; exact hin (by rw [u1, hT1.2.2 _ _ ((hB.2.2.2.2.1 q sq).1 u u1).1 sk u2]))
                · skip
                  exact absurd hc_57 (by decide)
              | some u =>
                obtain ⟨su, pu, eu1, eu2⟩ := (hB.2.2.2.2.1 g sg).1 u hgu
                have bu := hB.1 u su
                have u01 := (hT1.2.1 u su).2.2
                have fT_222 : σc T = some (oO 13 [.null, .null, .null, .ref (ad k0), .int (iI (n)), .int (iI (md)), .null, va_rf (ks), .null]) := by rw [hT1.1, hk0]; rfl
                have fn_223 : σc (ad kz) = some (oO 16 [.ref (kr kz), .ref (X.2.2.2 1), va_rf ((lf kz).map ad), va_rf ((rg kz).map ad), .ref (ad q), .int (iI (co1 kz))]) := by rw [(hT1.2.1 kz sk).1, hpq]; rfl
                have fn_224 : σc (ad q) = some (oO 16 [.ref (kr q), .ref (X.2.2.2 1), va_rf ((lf q).map ad), va_rf ((rg q).map ad), .ref (ad g), .int (iI (co1 q))]) := by rw [(hT1.2.1 q sq).1, hpg]; rfl
                have fn_225 : σc (ad g) = some (oO 16 [.ref (kr g), .ref (X.2.2.2 1), .ref (ad q), .ref (ad u), va_rf ((pa g).map ad), .int (iI (co1 g))]) := by rw [(hT1.2.1 g sg).1, hgq, hgu]; rfl
                have fn_226 : σc (ad u) = some (oO 16 [.ref (kr u), .ref (X.2.2.2 1), va_rf ((lf u).map ad), va_rf ((rg u).map ad), va_rf ((pa u).map ad), .int (iI (co1 u))]) := by exact (hT1.2.1 u su).1
                refine lv_aload_n C.1 C.2.1 dJ21_fixAfterInsertion_44 rfl (lv_at hl 1 rfl) ?_
                refine tl_cq (t_S (n := 1) C hml hS (m_parentOf_r l X σc (ad kz) (kr kz) (X.2.2.2 1) ((lf kz).map ad) ((rg kz).map ad) (some (ad q)) (co1 kz) fn_223) q775 q776 q74 q777 (by decide +kernel) rfl hl.1 rfl (Nat.le_of_ble_eq_true rfl) dJ21_fixAfterInsertion_45 ⟨Nat.le_of_ble_eq_true rfl, Nat.le_of_ble_eq_true rfl⟩ ⟨Nat.le_refl _, Nat.le_refl _⟩) hS (fun r_227 σ_229 H locs hP_228 hS => ?_)
                obtain ⟨rfl, rfl⟩ := hP_228
                refine tl_cq (t_S (n := 1) C hml hS (m_parentOf_r l X σc (ad q) (kr q) (X.2.2.2 1) ((lf q).map ad) ((rg q).map ad) (some (ad g)) (co1 q) fn_224) q775 q776 q74 q777 (by decide +kernel) rfl hl.1 rfl (Nat.le_of_ble_eq_true rfl) dJ21_fixAfterInsertion_48 ⟨Nat.le_of_ble_eq_true rfl, Nat.le_of_ble_eq_true rfl⟩ ⟨Nat.le_refl _, Nat.le_refl _⟩) hS (fun r_230 σ_232 H locs hP_231 hS => ?_)
                obtain ⟨rfl, rfl⟩ := hP_231
                refine tl_cq (t_S (n := 1) C hml hS (m_rightOf_r l X σc (ad g) (kr g) (X.2.2.2 1) (some (ad q)) (some (ad u)) ((pa g).map ad) (co1 g) fn_225) q781 q782 q74 q783 (by decide +kernel) rfl hl.1 rfl (Nat.le_of_ble_eq_true rfl) dJ21_fixAfterInsertion_51 ⟨Nat.le_of_ble_eq_true rfl, Nat.le_of_ble_eq_true rfl⟩ ⟨Nat.le_refl _, Nat.le_refl _⟩) hS (fun r_233 σ_235 H locs hP_234 hS => ?_)
                obtain ⟨rfl, rfl⟩ := hP_234
                refine lv_astore_n (lv' := [(2, .ref (ad u)), (0, .ref (T)), (1, .ref (ad kz))]) C.1 C.2.1 dJ21_fixAfterInsertion_54 rfl hl (by decide) rfl (fun ls hl => ?_)
                refine lv_aload_n C.1 C.2.1 dJ21_fixAfterInsertion_55 rfl (lv_at hl 0 rfl) ?_
                refine tl_ci (t_S (n := 1) C hml hS (m_colorOf_r l X σc (ad u) (kr u) (X.2.2.2 1) ((lf u).map ad) ((rg u).map ad) ((pa u).map ad) (co1 u) fn_226 (hT1.2.1 u su).2.2) q784 q785 q74 q786 (by decide +kernel) rfl hl.1 rfl (Nat.le_of_ble_eq_true rfl) dJ21_fixAfterInsertion_56 ⟨Nat.le_of_ble_eq_true rfl, Nat.le_of_ble_eq_true rfl⟩ ⟨Nat.le_refl _, Nat.le_refl _⟩) hS (fun r_236 σ_238 H locs hP_237 hS => ?_)
                obtain ⟨rfl, rfl⟩ := hP_237
                refine ti_if_ne (tgt := 97) C.1 C.2.1 dJ21_fixAfterInsertion_59 (by decide) ⟨by omega, by omega⟩ (fun hc_239 => ?_) (fun hc_239 => ?_)
                · skip
                  by_cases hin : rg q = some kz
                  · skip
                    obtain ⟨-, -, ei1, ei2⟩ := (hB.2.2.2.2.1 q sq).1 kz hin
                    have hCk : rg kz ≠ some q := fun z => by obtain ⟨-, u1, -, -⟩ := (hB.2.2.2.2.1 kz sk).1 q z; rw [hpg] at u1; have := Option.some.inj u1; omega
                    obtain ⟨i1, i2, i3, i4⟩ := fx_in (A := lf) (C := rg) (pa := pa) (q := q) (g := g) (k := kz) (by omega) (by omega) (by omega) hgq hin hpg hCk
                    have fT_240 : σc T = some (oO 13 [.null, .null, .null, .ref (ad k0), .int (iI (n)), .int (iI (md)), .null, va_rf (ks), .null]) := by rw [hT1.1, hk0]; rfl
                    have fn_241 : σc (ad kz) = some (oO 16 [.ref (kr kz), .ref (X.2.2.2 1), va_rf ((lf kz).map ad), va_rf ((rg kz).map ad), .ref (ad q), .int (iI (co1 kz))]) := by rw [(hT1.2.1 kz sk).1, hpq]; rfl
                    have fn_242 : σc (ad q) = some (oO 16 [.ref (kr q), .ref (X.2.2.2 1), va_rf ((lf q).map ad), .ref (ad kz), .ref (ad g), .int (iI (co1 q))]) := by rw [(hT1.2.1 q sq).1, hin, hpg]; rfl
                    have fn_243 : σc (ad g) = some (oO 16 [.ref (kr g), .ref (X.2.2.2 1), .ref (ad q), va_rf ((rg g).map ad), va_rf ((pa g).map ad), .int (iI (co1 g))]) := by rw [(hT1.2.1 g sg).1, hgq]; rfl
                    refine lv_aload_n C.1 C.2.1 dJ21_fixAfterInsertion_97 rfl (lv_at hl 2 rfl) ?_
                    refine lv_aload_n C.1 C.2.1 dJ21_fixAfterInsertion_98 rfl (lv_at hl 2 rfl) ?_
                    refine tl_cq (t_S (n := 1) C hml hS (m_parentOf_r l X σc (ad kz) (kr kz) (X.2.2.2 1) ((lf kz).map ad) ((rg kz).map ad) (some (ad q)) (co1 kz) fn_241) q775 q776 q74 q777 (by decide +kernel) rfl hl.1 rfl (Nat.le_of_ble_eq_true rfl) dJ21_fixAfterInsertion_99 ⟨Nat.le_of_ble_eq_true rfl, Nat.le_of_ble_eq_true rfl⟩ ⟨Nat.le_refl _, Nat.le_refl _⟩) hS (fun r_244 σ_246 H locs hP_245 hS => ?_)
                    obtain ⟨rfl, rfl⟩ := hP_245
                    refine tl_cq (t_S (n := 1) C hml hS (m_rightOf_r l X σc (ad q) (kr q) (X.2.2.2 1) ((lf q).map ad) (some (ad kz)) (some (ad g)) (co1 q) fn_242) q781 q782 q74 q783 (by decide +kernel) rfl hl.1 rfl (Nat.le_of_ble_eq_true rfl) dJ21_fixAfterInsertion_102 ⟨Nat.le_of_ble_eq_true rfl, Nat.le_of_ble_eq_true rfl⟩ ⟨Nat.le_refl _, Nat.le_refl _⟩) hS (fun r_247 σ_249 H locs hP_248 hS => ?_)
                    obtain ⟨rfl, rfl⟩ := hP_248
                    refine lv_acmp_ne (tgt := 118) (rx := (some (ad kz))) (ry := (some (ad kz))) C.1 C.2.1 dJ21_fixAfterInsertion_105 (by decide) (fun hc_250 => ?_) (fun hc_250 => ?_)
                    · skip
                      exact absurd rfl hc_250
                    · skip
                      refine lv_aload_n C.1 C.2.1 dJ21_fixAfterInsertion_108 rfl (lv_at hl 2 rfl) ?_
                      refine tl_cq (t_S (n := 1) C hml hS (m_parentOf_r l X σc (ad kz) (kr kz) (X.2.2.2 1) ((lf kz).map ad) ((rg kz).map ad) (some (ad q)) (co1 kz) fn_241) q775 q776 q74 q777 (by decide +kernel) rfl hl.1 rfl (Nat.le_of_ble_eq_true rfl) dJ21_fixAfterInsertion_109 ⟨Nat.le_of_ble_eq_true rfl, Nat.le_of_ble_eq_true rfl⟩ ⟨Nat.le_refl _, Nat.le_refl _⟩) hS (fun r_251 σ_253 H locs hP_252 hS => ?_)
                      obtain ⟨rfl, rfl⟩ := hP_252
                      refine lv_astore_n (lv' := [(1, .ref (ad q)), (2, .ref (ad u)), (0, .ref (T))]) C.1 C.2.1 dJ21_fixAfterInsertion_112 rfl hl (by decide) rfl (fun ls hl => ?_)
                      refine lv_aload_n C.1 C.2.1 dJ21_fixAfterInsertion_113 rfl (lv_at hl 2 rfl) ?_
                      refine lv_aload_n C.1 C.2.1 dJ21_fixAfterInsertion_114 rfl (lv_at hl 0 rfl) ?_
                      refine tl_cv (t_V (n := 1) (ci := 13) C hml hS (m_rotL l X σc T n md ks N S rt lf rg pa lo hi co1 ad kr hT1 hB q kz sq hin) q790 q792 qs8 q74 q793 (by decide +kernel) fT_240 rfl rfl hl.1 rfl (Nat.le_of_ble_eq_true rfl) dJ21_fixAfterInsertion_115 ⟨Nat.le_of_ble_eq_true rfl, Nat.le_of_ble_eq_true rfl⟩ ⟨Nat.le_refl _, Nat.le_refl _⟩) hS (fun σ_256 H locs hP_255 hS => ?_)
                      obtain ⟨hT_257, hF_258⟩ := hP_255
                      have hF_258 := hF1.tr hF_258
                      have hB_259 := hB.rotL sq hin
                      obtain ⟨kr__260, hk_261⟩ : ∃ k, (rlT rt q kz) = some k := by cases h : (rlT rt q kz) with | none => exact absurd sk (hB_259.2.2.2.2.2.2.2 h kz) | some k => exact ⟨k, rfl⟩
                      have sk_262 := (hB_259.2.2.2.2.2.2.1 kr__260 hk_261).1
                      have fT_263 : σ_256 T = some (oO 13 [.null, .null, .null, .ref (ad kr__260), .int (iI (n)), .int (iI (md)), .null, va_rf (ks), .null]) := by rw [hT_257.1, hk_261]; rfl
                      have fn_264 : σ_256 (ad kz) = some (oO 16 [.ref (kr kz), .ref (X.2.2.2 1), va_rf (((rlL lf q kz) kz).map ad), va_rf (((rlR lf rg q kz) kz).map ad), .ref (ad g), .int (iI (co1 kz))]) := by rw [(hT_257.2.1 kz sk).1, i2]; rfl
                      have fn_265 : σ_256 (ad q) = some (oO 16 [.ref (kr q), .ref (X.2.2.2 1), va_rf (((rlL lf q kz) q).map ad), va_rf (((rlR lf rg q kz) q).map ad), .ref (ad kz), .int (iI (co1 q))]) := by rw [(hT_257.2.1 q sq).1, i3]; rfl
                      have fn_266 : σ_256 (ad g) = some (oO 16 [.ref (kr g), .ref (X.2.2.2 1), .ref (ad kz), va_rf (((rlR lf rg q kz) g).map ad), va_rf (((rlP lf pa q kz) g).map ad), .int (iI (co1 g))]) := by rw [(hT_257.2.1 g sg).1, i1]; rfl
                      refine lv_aload_n C.1 C.2.1 dJ21_fixAfterInsertion_118 rfl (lv_at hl 0 rfl) ?_
                      refine tl_cq (t_S (n := 1) C hml hS (m_parentOf_r l X σ_256 (ad q) (kr q) (X.2.2.2 1) (((rlL lf q kz) q).map ad) (((rlR lf rg q kz) q).map ad) (some (ad kz)) (co1 q) fn_265) q775 q776 q74 q777 (by decide +kernel) rfl hl.1 rfl (Nat.le_of_ble_eq_true rfl) dJ21_fixAfterInsertion_119 ⟨Nat.le_of_ble_eq_true rfl, Nat.le_of_ble_eq_true rfl⟩ ⟨Nat.le_refl _, Nat.le_refl _⟩) hS (fun r_267 σ_269 H locs hP_268 hS => ?_)
                      obtain ⟨rfl, rfl⟩ := hP_268
                      refine ti_const C.1 C.2.1 dJ21_fixAfterInsertion_122 ?_
                      refine tl_cv (t_S (n := 2) C hml hS (m_setColor l X σ_256 (ad kz) (kr kz) (X.2.2.2 1) (((rlL lf q kz) kz).map ad) (((rlR lf rg q kz) kz).map ad) (((rlP lf pa q kz) kz).map ad) (co1 kz) (hT_257.2.1 kz sk).1 1 (by decide)) q787 q788 q74 q789 (by decide +kernel) rfl hl.1 rfl (Nat.le_of_ble_eq_true rfl) dJ21_fixAfterInsertion_123 ⟨Nat.le_of_ble_eq_true rfl, Nat.le_of_ble_eq_true rfl⟩ ⟨Nat.le_refl _, Nat.le_refl _⟩) hS (fun σ_272 H locs hP_271 hS => ?_)
                      have hF_275 := TF.up hF_258 (hT_257.2.1 kz sk).1 (Or.inr rfl) hP_271 hS.fix
                      have hT_273 := TM.color hT_257 sk (c2 := 1) (Or.inr rfl) hP_271
                      obtain ⟨co_274, eco_274⟩ : ∃ z, z = fup co1 kz 1 := ⟨_, rfl⟩
                      rw [← eco_274] at hT_273
                      have hcol_276 : co_274 kz = 1 := by rw [eco_274, fup_s]
                      have fT_277 : σ_272 T = some (oO 13 [.null, .null, .null, .ref (ad kr__260), .int (iI (n)), .int (iI (md)), .null, va_rf (ks), .null]) := by rw [hT_273.1, hk_261]; rfl
                      have fn_278 : σ_272 (ad kz) = some (oO 16 [.ref (kr kz), .ref (X.2.2.2 1), va_rf (((rlL lf q kz) kz).map ad), va_rf (((rlR lf rg q kz) kz).map ad), .ref (ad g), .int (iI (co_274 kz))]) := by rw [(hT_273.2.1 kz sk).1, i2]; rfl
                      have fn_279 : σ_272 (ad q) = some (oO 16 [.ref (kr q), .ref (X.2.2.2 1), va_rf (((rlL lf q kz) q).map ad), va_rf (((rlR lf rg q kz) q).map ad), .ref (ad kz), .int (iI (co_274 q))]) := by rw [(hT_273.2.1 q sq).1, i3]; rfl
                      have fn_280 : σ_272 (ad g) = some (oO 16 [.ref (kr g), .ref (X.2.2.2 1), .ref (ad kz), va_rf (((rlR lf rg q kz) g).map ad), va_rf (((rlP lf pa q kz) g).map ad), .int (iI (co_274 g))]) := by rw [(hT_273.2.1 g sg).1, i1]; rfl
                      refine lv_aload_n C.1 C.2.1 dJ21_fixAfterInsertion_126 rfl (lv_at hl 0 rfl) ?_
                      refine tl_cq (t_S (n := 1) C hml hS (m_parentOf_r l X σ_272 (ad q) (kr q) (X.2.2.2 1) (((rlL lf q kz) q).map ad) (((rlR lf rg q kz) q).map ad) (some (ad kz)) (co_274 q) fn_279) q775 q776 q74 q777 (by decide +kernel) rfl hl.1 rfl (Nat.le_of_ble_eq_true rfl) dJ21_fixAfterInsertion_127 ⟨Nat.le_of_ble_eq_true rfl, Nat.le_of_ble_eq_true rfl⟩ ⟨Nat.le_refl _, Nat.le_refl _⟩) hS (fun r_281 σ_283 H locs hP_282 hS => ?_)
                      obtain ⟨rfl, rfl⟩ := hP_282
                      refine tl_cq (t_S (n := 1) C hml hS (m_parentOf_r l X σ_272 (ad kz) (kr kz) (X.2.2.2 1) (((rlL lf q kz) kz).map ad) (((rlR lf rg q kz) kz).map ad) (some (ad g)) (co_274 kz) fn_278) q775 q776 q74 q777 (by decide +kernel) rfl hl.1 rfl (Nat.le_of_ble_eq_true rfl) dJ21_fixAfterInsertion_130 ⟨Nat.le_of_ble_eq_true rfl, Nat.le_of_ble_eq_true rfl⟩ ⟨Nat.le_refl _, Nat.le_refl _⟩) hS (fun r_284 σ_286 H locs hP_285 hS => ?_)
                      obtain ⟨rfl, rfl⟩ := hP_285
                      refine ti_const C.1 C.2.1 dJ21_fixAfterInsertion_133 ?_
                      refine tl_cv (t_S (n := 2) C hml hS (m_setColor l X σ_272 (ad g) (kr g) (X.2.2.2 1) (((rlL lf q kz) g).map ad) (((rlR lf rg q kz) g).map ad) (((rlP lf pa q kz) g).map ad) (co_274 g) (hT_273.2.1 g sg).1 0 (by decide)) q787 q788 q74 q789 (by decide +kernel) rfl hl.1 rfl (Nat.le_of_ble_eq_true rfl) dJ21_fixAfterInsertion_134 ⟨Nat.le_of_ble_eq_true rfl, Nat.le_of_ble_eq_true rfl⟩ ⟨Nat.le_refl _, Nat.le_refl _⟩) hS (fun σ_289 H locs hP_288 hS => ?_)
                      have hF_292 := TF.up hF_275 (hT_273.2.1 g sg).1 (Or.inr rfl) hP_288 hS.fix
                      have hT_290 := TM.color hT_273 sg (c2 := 0) (Or.inl rfl) hP_288
                      obtain ⟨co_291, eco_291⟩ : ∃ z, z = fup co_274 g 0 := ⟨_, rfl⟩
                      rw [← eco_291] at hT_290
                      have hcol_293 : co_291 kz = 1 := by rw [eco_291, fup_n (by omega)]; exact hcol_276
                      have hcol_294 : co_291 g = 0 := by rw [eco_291, fup_s]
                      have fT_295 : σ_289 T = some (oO 13 [.null, .null, .null, .ref (ad kr__260), .int (iI (n)), .int (iI (md)), .null, va_rf (ks), .null]) := by rw [hT_290.1, hk_261]; rfl
                      have fn_296 : σ_289 (ad kz) = some (oO 16 [.ref (kr kz), .ref (X.2.2.2 1), va_rf (((rlL lf q kz) kz).map ad), va_rf (((rlR lf rg q kz) kz).map ad), .ref (ad g), .int (iI (co_291 kz))]) := by rw [(hT_290.2.1 kz sk).1, i2]; rfl
                      have fn_297 : σ_289 (ad q) = some (oO 16 [.ref (kr q), .ref (X.2.2.2 1), va_rf (((rlL lf q kz) q).map ad), va_rf (((rlR lf rg q kz) q).map ad), .ref (ad kz), .int (iI (co_291 q))]) := by rw [(hT_290.2.1 q sq).1, i3]; rfl
                      have fn_298 : σ_289 (ad g) = some (oO 16 [.ref (kr g), .ref (X.2.2.2 1), .ref (ad kz), va_rf (((rlR lf rg q kz) g).map ad), va_rf (((rlP lf pa q kz) g).map ad), .int (iI (co_291 g))]) := by rw [(hT_290.2.1 g sg).1, i1]; rfl
                      refine lv_aload_n C.1 C.2.1 dJ21_fixAfterInsertion_137 rfl (lv_at hl 2 rfl) ?_
                      refine lv_aload_n C.1 C.2.1 dJ21_fixAfterInsertion_138 rfl (lv_at hl 0 rfl) ?_
                      refine tl_cq (t_S (n := 1) C hml hS (m_parentOf_r l X σ_289 (ad q) (kr q) (X.2.2.2 1) (((rlL lf q kz) q).map ad) (((rlR lf rg q kz) q).map ad) (some (ad kz)) (co_291 q) fn_297) q775 q776 q74 q777 (by decide +kernel) rfl hl.1 rfl (Nat.le_of_ble_eq_true rfl) dJ21_fixAfterInsertion_139 ⟨Nat.le_of_ble_eq_true rfl, Nat.le_of_ble_eq_true rfl⟩ ⟨Nat.le_refl _, Nat.le_refl _⟩) hS (fun r_299 σ_301 H locs hP_300 hS => ?_)
                      obtain ⟨rfl, rfl⟩ := hP_300
                      refine tl_cq (t_S (n := 1) C hml hS (m_parentOf_r l X σ_289 (ad kz) (kr kz) (X.2.2.2 1) (((rlL lf q kz) kz).map ad) (((rlR lf rg q kz) kz).map ad) (some (ad g)) (co_291 kz) fn_296) q775 q776 q74 q777 (by decide +kernel) rfl hl.1 rfl (Nat.le_of_ble_eq_true rfl) dJ21_fixAfterInsertion_142 ⟨Nat.le_of_ble_eq_true rfl, Nat.le_of_ble_eq_true rfl⟩ ⟨Nat.le_refl _, Nat.le_refl _⟩) hS (fun r_302 σ_304 H locs hP_303 hS => ?_)
                      obtain ⟨rfl, rfl⟩ := hP_303
                      refine tl_cv (t_V (n := 1) (ci := 13) C hml hS (m_rotR l X σ_289 T n md ks N S (rlT rt q kz) (rlL lf q kz) (rlR lf rg q kz) (rlP lf pa q kz) (fup lo kz (lo q)) (fup hi q kz) co_291 ad kr hT_290 hB_259 g kz sg i1) q794 q796 qs9 q74 q797 (by decide +kernel) fT_295 rfl rfl hl.1 rfl (Nat.le_of_ble_eq_true rfl) dJ21_fixAfterInsertion_145 ⟨Nat.le_of_ble_eq_true rfl, Nat.le_of_ble_eq_true rfl⟩ ⟨Nat.le_refl _, Nat.le_refl _⟩) hS (fun σ_307 H locs hP_306 hS => ?_)
                      obtain ⟨hT_308, hF_309⟩ := hP_306
                      have hF_309 := hF_292.tr hF_309
                      have hB_310 := hB_259.rotR sg i1
                      obtain ⟨kr__311, hk_312⟩ : ∃ k, (rlT (rlT rt q kz) g kz) = some k := by cases h : (rlT (rlT rt q kz) g kz) with | none => exact absurd sk (hB_310.2.2.2.2.2.2.2 h kz) | some k => exact ⟨k, rfl⟩
                      have sk_313 := (hB_310.2.2.2.2.2.2.1 kr__311 hk_312).1
                      have fT_314 : σ_307 T = some (oO 13 [.null, .null, .null, .ref (ad kr__311), .int (iI (n)), .int (iI (md)), .null, va_rf (ks), .null]) := by rw [hT_308.1, hk_312]; rfl
                      have fn_315 : σ_307 (ad kz) = some (oO 16 [.ref (kr kz), .ref (X.2.2.2 1), va_rf (((rlR (rlR lf rg q kz) (rlL lf q kz) g kz) kz).map ad), va_rf (((rlL (rlR lf rg q kz) g kz) kz).map ad), va_rf (((rlP (rlR lf rg q kz) (rlP lf pa q kz) g kz) kz).map ad), .int (iI (co_291 kz))]) := by exact (hT_308.2.1 kz sk).1
                      have fn_316 : σ_307 (ad q) = some (oO 16 [.ref (kr q), .ref (X.2.2.2 1), va_rf (((rlR (rlR lf rg q kz) (rlL lf q kz) g kz) q).map ad), va_rf (((rlL (rlR lf rg q kz) g kz) q).map ad), .ref (ad kz), .int (iI (co_291 q))]) := by rw [(hT_308.2.1 q sq).1, i4]; rfl
                      have fn_317 : σ_307 (ad g) = some (oO 16 [.ref (kr g), .ref (X.2.2.2 1), va_rf (((rlR (rlR lf rg q kz) (rlL lf q kz) g kz) g).map ad), va_rf (((rlL (rlR lf rg q kz) g kz) g).map ad), va_rf (((rlP (rlR lf rg q kz) (rlP lf pa q kz) g kz) g).map ad), .int (iI (co_291 g))]) := by exact (hT_308.2.1 g sg).1
                      refine lv_goto (tgt := 5) C.1 C.2.1 dJ21_fixAfterInsertion_148 (by decide) ?_
                      refine lv_aload_n C.1 C.2.1 dJ21_fixAfterInsertion_5 rfl (lv_at hl 0 rfl) ?_
                      refine lv_ifnull C.1 C.2.1 dJ21_fixAfterInsertion_6 ?_
                      refine lv_aload_n C.1 C.2.1 dJ21_fixAfterInsertion_9 rfl (lv_at hl 0 rfl) ?_
                      refine lv_aload_n C.1 C.2.1 dJ21_fixAfterInsertion_10 rfl (lv_at hl 2 rfl) ?_
                      refine gf_J21_101_13 C hS fT_314 rfl dJ21_fixAfterInsertion_11 ?_
                      refine lv_acmp_eq (tgt := 258) (rx := (some (ad q))) (ry := (some (ad kr__311))) C.1 C.2.1 dJ21_fixAfterInsertion_14 (by decide) (fun hc_318 => ?_) (fun hc_318 => ?_)
                      · skip
                        have fT_319 : σ_307 T = some (oO 13 [.null, .null, .null, .ref (ad kr__311), .int (iI (n)), .int (iI (md)), .null, va_rf (ks), .null]) := by rw [hT_308.1, hk_312]; rfl
                        have fn_320 : σ_307 (ad kr__311) = some (oO 16 [.ref (kr kr__311), .ref (X.2.2.2 1), va_rf (((rlR (rlR lf rg q kz) (rlL lf q kz) g kz) kr__311).map ad), va_rf (((rlL (rlR lf rg q kz) g kz) kr__311).map ad), va_rf (((rlP (rlR lf rg q kz) (rlP lf pa q kz) g kz) kr__311).map ad), .int (iI (co_291 kr__311))]) := by exact (hT_308.2.1 kr__311 sk_313).1
                        refine lv_aload_n C.1 C.2.1 dJ21_fixAfterInsertion_258 rfl (lv_at hl 2 rfl) ?_
                        refine gf_J21_101_13 C hS fT_319 rfl dJ21_fixAfterInsertion_259 ?_
                        refine ti_const C.1 C.2.1 dJ21_fixAfterInsertion_262 ?_
                        refine gp_J21_290_16 C hS fn_320 (by decide) (by decide) (Nat.le_of_ble_eq_true rfl) dJ21_fixAfterInsertion_263 (fun H locs hS => ?_)
                        obtain ⟨σ_321, eσ_321⟩ : ∃ z, z = va_up σ_307 (ad kr__311) (some (oO 16 [.ref (kr kr__311), .ref (X.2.2.2 1), va_rf (((rlR (rlR lf rg q kz) (rlL lf q kz) g kz) kr__311).map ad), va_rf (((rlL (rlR lf rg q kz) g kz) kr__311).map ad), va_rf (((rlP (rlR lf rg q kz) (rlP lf pa q kz) g kz) kr__311).map ad), .int (iI (1))])) := ⟨_, rfl⟩
                        have hS : tl_S X s σ_321 H locs := by rw [eσ_321]; exact hS
                        have he_322 := up_kp eσ_321 (tl_ne fT_319 fn_320 (by decide)) fT_319
                        have he_323 : σ_321 (ad kr__311) = some (oO 16 [.ref (kr kr__311), .ref (X.2.2.2 1), va_rf (((rlR (rlR lf rg q kz) (rlL lf q kz) g kz) kr__311).map ad), va_rf (((rlL (rlR lf rg q kz) g kz) kr__311).map ad), va_rf (((rlP (rlR lf rg q kz) (rlP lf pa q kz) g kz) kr__311).map ad), .int (iI (1))]) := by rw [eσ_321]; exact up_s
                        exact r_v C hr hlk hS ⟨(rlT (rlT rt q kz) g kz), (rlR (rlR lf rg q kz) (rlL lf q kz) g kz), (rlL (rlR lf rg q kz) g kz), (rlP (rlR lf rg q kz) (rlP lf pa q kz) g kz), (fup (fup lo kz (lo q)) g kz), (fup (fup hi q kz) kz ((fup hi q kz) g)), fup co_291 kr__311 1, TM.color hT_308 sk_313 (Or.inr rfl) eσ_321, hB_310, TF.up hF_309 (hT_308.2.1 kr__311 sk_313).1 (Or.inr rfl) eσ_321 hS.fix, (fun k h => by rw [hk_312] at h; cases h; exact fup_s)⟩ dJ21_fixAfterInsertion_266
                      · skip
                        refine lv_aload_n C.1 C.2.1 dJ21_fixAfterInsertion_17 rfl (lv_at hl 0 rfl) ?_
                        refine gf_J21_124_16 C hS fn_316 rfl dJ21_fixAfterInsertion_18 ?_
                        refine gf_J21_290_16 C hS fn_315 rfl dJ21_fixAfterInsertion_21 ?_
                        refine ti_if_ne (tgt := 258) C.1 C.2.1 dJ21_fixAfterInsertion_24 (by decide) ⟨by omega, by omega⟩ (fun hc_324 => ?_) (fun hc_324 => ?_)
                        · skip
                          have fT_325 : σ_307 T = some (oO 13 [.null, .null, .null, .ref (ad kr__311), .int (iI (n)), .int (iI (md)), .null, va_rf (ks), .null]) := by rw [hT_308.1, hk_312]; rfl
                          have fn_326 : σ_307 (ad kr__311) = some (oO 16 [.ref (kr kr__311), .ref (X.2.2.2 1), va_rf (((rlR (rlR lf rg q kz) (rlL lf q kz) g kz) kr__311).map ad), va_rf (((rlL (rlR lf rg q kz) g kz) kr__311).map ad), va_rf (((rlP (rlR lf rg q kz) (rlP lf pa q kz) g kz) kr__311).map ad), .int (iI (co_291 kr__311))]) := by exact (hT_308.2.1 kr__311 sk_313).1
                          refine lv_aload_n C.1 C.2.1 dJ21_fixAfterInsertion_258 rfl (lv_at hl 2 rfl) ?_
                          refine gf_J21_101_13 C hS fT_325 rfl dJ21_fixAfterInsertion_259 ?_
                          refine ti_const C.1 C.2.1 dJ21_fixAfterInsertion_262 ?_
                          refine gp_J21_290_16 C hS fn_326 (by decide) (by decide) (Nat.le_of_ble_eq_true rfl) dJ21_fixAfterInsertion_263 (fun H locs hS => ?_)
                          obtain ⟨σ_327, eσ_327⟩ : ∃ z, z = va_up σ_307 (ad kr__311) (some (oO 16 [.ref (kr kr__311), .ref (X.2.2.2 1), va_rf (((rlR (rlR lf rg q kz) (rlL lf q kz) g kz) kr__311).map ad), va_rf (((rlL (rlR lf rg q kz) g kz) kr__311).map ad), va_rf (((rlP (rlR lf rg q kz) (rlP lf pa q kz) g kz) kr__311).map ad), .int (iI (1))])) := ⟨_, rfl⟩
                          have hS : tl_S X s σ_327 H locs := by rw [eσ_327]; exact hS
                          have he_328 := up_kp eσ_327 (tl_ne fT_325 fn_326 (by decide)) fT_325
                          have he_329 : σ_327 (ad kr__311) = some (oO 16 [.ref (kr kr__311), .ref (X.2.2.2 1), va_rf (((rlR (rlR lf rg q kz) (rlL lf q kz) g kz) kr__311).map ad), va_rf (((rlL (rlR lf rg q kz) g kz) kr__311).map ad), va_rf (((rlP (rlR lf rg q kz) (rlP lf pa q kz) g kz) kr__311).map ad), .int (iI (1))]) := by rw [eσ_327]; exact up_s
                          exact r_v C hr hlk hS ⟨(rlT (rlT rt q kz) g kz), (rlR (rlR lf rg q kz) (rlL lf q kz) g kz), (rlL (rlR lf rg q kz) g kz), (rlP (rlR lf rg q kz) (rlP lf pa q kz) g kz), (fup (fup lo kz (lo q)) g kz), (fup (fup hi q kz) kz ((fup hi q kz) g)), fup co_291 kr__311 1, TM.color hT_308 sk_313 (Or.inr rfl) eσ_327, hB_310, TF.up hF_309 (hT_308.2.1 kr__311 sk_313).1 (Or.inr rfl) eσ_327 hS.fix, (fun k h => by rw [hk_312] at h; cases h; exact fup_s)⟩ dJ21_fixAfterInsertion_266
                        · skip
                          exfalso; omega
                  · skip
                    have hou : lf q = some kz := cq.resolve_right hin
                    obtain ⟨-, -, ei1, ei2⟩ := (hB.2.2.2.1 q sq).1 kz hou
                    have o1 := fx_out (C := rg) (pa := pa) (q := q) (g := g) (k := kz) (by omega) (by omega) hin hpq
                    have fT_330 : σc T = some (oO 13 [.null, .null, .null, .ref (ad k0), .int (iI (n)), .int (iI (md)), .null, va_rf (ks), .null]) := by rw [hT1.1, hk0]; rfl
                    have fn_331 : σc (ad kz) = some (oO 16 [.ref (kr kz), .ref (X.2.2.2 1), va_rf ((lf kz).map ad), va_rf ((rg kz).map ad), .ref (ad q), .int (iI (co1 kz))]) := by rw [(hT1.2.1 kz sk).1, hpq]; rfl
                    have fn_332 : σc (ad q) = some (oO 16 [.ref (kr q), .ref (X.2.2.2 1), va_rf ((lf q).map ad), va_rf ((rg q).map ad), .ref (ad g), .int (iI (co1 q))]) := by rw [(hT1.2.1 q sq).1, hpg]; rfl
                    have fn_333 : σc (ad g) = some (oO 16 [.ref (kr g), .ref (X.2.2.2 1), .ref (ad q), va_rf ((rg g).map ad), va_rf ((pa g).map ad), .int (iI (co1 g))]) := by rw [(hT1.2.1 g sg).1, hgq]; rfl
                    refine lv_aload_n C.1 C.2.1 dJ21_fixAfterInsertion_97 rfl (lv_at hl 2 rfl) ?_
                    refine lv_aload_n C.1 C.2.1 dJ21_fixAfterInsertion_98 rfl (lv_at hl 2 rfl) ?_
                    refine tl_cq (t_S (n := 1) C hml hS (m_parentOf_r l X σc (ad kz) (kr kz) (X.2.2.2 1) ((lf kz).map ad) ((rg kz).map ad) (some (ad q)) (co1 kz) fn_331) q775 q776 q74 q777 (by decide +kernel) rfl hl.1 rfl (Nat.le_of_ble_eq_true rfl) dJ21_fixAfterInsertion_99 ⟨Nat.le_of_ble_eq_true rfl, Nat.le_of_ble_eq_true rfl⟩ ⟨Nat.le_refl _, Nat.le_refl _⟩) hS (fun r_334 σ_336 H locs hP_335 hS => ?_)
                    obtain ⟨rfl, rfl⟩ := hP_335
                    refine tl_cq (t_S (n := 1) C hml hS (m_rightOf_r l X σc (ad q) (kr q) (X.2.2.2 1) ((lf q).map ad) ((rg q).map ad) (some (ad g)) (co1 q) fn_332) q781 q782 q74 q783 (by decide +kernel) rfl hl.1 rfl (Nat.le_of_ble_eq_true rfl) dJ21_fixAfterInsertion_102 ⟨Nat.le_of_ble_eq_true rfl, Nat.le_of_ble_eq_true rfl⟩ ⟨Nat.le_refl _, Nat.le_refl _⟩) hS (fun r_337 σ_339 H locs hP_338 hS => ?_)
                    obtain ⟨rfl, rfl⟩ := hP_338
                    refine lv_acmp_ne (tgt := 118) (rx := (some (ad kz))) (ry := ((rg q).map ad)) C.1 C.2.1 dJ21_fixAfterInsertion_105 (by decide) (fun hc_340 => ?_) (fun hc_340 => ?_)
                    · skip
                      refine lv_aload_n C.1 C.2.1 dJ21_fixAfterInsertion_118 rfl (lv_at hl 2 rfl) ?_
                      refine tl_cq (t_S (n := 1) C hml hS (m_parentOf_r l X σc (ad kz) (kr kz) (X.2.2.2 1) ((lf kz).map ad) ((rg kz).map ad) (some (ad q)) (co1 kz) fn_331) q775 q776 q74 q777 (by decide +kernel) rfl hl.1 rfl (Nat.le_of_ble_eq_true rfl) dJ21_fixAfterInsertion_119 ⟨Nat.le_of_ble_eq_true rfl, Nat.le_of_ble_eq_true rfl⟩ ⟨Nat.le_refl _, Nat.le_refl _⟩) hS (fun r_341 σ_343 H locs hP_342 hS => ?_)
                      obtain ⟨rfl, rfl⟩ := hP_342
                      refine ti_const C.1 C.2.1 dJ21_fixAfterInsertion_122 ?_
                      refine tl_cv (t_S (n := 2) C hml hS (m_setColor l X σc (ad q) (kr q) (X.2.2.2 1) ((lf q).map ad) ((rg q).map ad) ((pa q).map ad) (co1 q) (hT1.2.1 q sq).1 1 (by decide)) q787 q788 q74 q789 (by decide +kernel) rfl hl.1 rfl (Nat.le_of_ble_eq_true rfl) dJ21_fixAfterInsertion_123 ⟨Nat.le_of_ble_eq_true rfl, Nat.le_of_ble_eq_true rfl⟩ ⟨Nat.le_refl _, Nat.le_refl _⟩) hS (fun σ_346 H locs hP_345 hS => ?_)
                      have hF_349 := TF.up hF1 (hT1.2.1 q sq).1 (Or.inr rfl) hP_345 hS.fix
                      have hT_347 := TM.color hT1 sq (c2 := 1) (Or.inr rfl) hP_345
                      obtain ⟨co_348, eco_348⟩ : ∃ z, z = fup co1 q 1 := ⟨_, rfl⟩
                      rw [← eco_348] at hT_347
                      have hcol_350 : co_348 q = 1 := by rw [eco_348, fup_s]
                      have fT_351 : σ_346 T = some (oO 13 [.null, .null, .null, .ref (ad k0), .int (iI (n)), .int (iI (md)), .null, va_rf (ks), .null]) := by rw [hT_347.1, hk0]; rfl
                      have fn_352 : σ_346 (ad kz) = some (oO 16 [.ref (kr kz), .ref (X.2.2.2 1), va_rf ((lf kz).map ad), va_rf ((rg kz).map ad), .ref (ad q), .int (iI (co_348 kz))]) := by rw [(hT_347.2.1 kz sk).1, hpq]; rfl
                      have fn_353 : σ_346 (ad q) = some (oO 16 [.ref (kr q), .ref (X.2.2.2 1), va_rf ((lf q).map ad), va_rf ((rg q).map ad), .ref (ad g), .int (iI (co_348 q))]) := by rw [(hT_347.2.1 q sq).1, hpg]; rfl
                      have fn_354 : σ_346 (ad g) = some (oO 16 [.ref (kr g), .ref (X.2.2.2 1), .ref (ad q), va_rf ((rg g).map ad), va_rf ((pa g).map ad), .int (iI (co_348 g))]) := by rw [(hT_347.2.1 g sg).1, hgq]; rfl
                      refine lv_aload_n C.1 C.2.1 dJ21_fixAfterInsertion_126 rfl (lv_at hl 2 rfl) ?_
                      refine tl_cq (t_S (n := 1) C hml hS (m_parentOf_r l X σ_346 (ad kz) (kr kz) (X.2.2.2 1) ((lf kz).map ad) ((rg kz).map ad) (some (ad q)) (co_348 kz) fn_352) q775 q776 q74 q777 (by decide +kernel) rfl hl.1 rfl (Nat.le_of_ble_eq_true rfl) dJ21_fixAfterInsertion_127 ⟨Nat.le_of_ble_eq_true rfl, Nat.le_of_ble_eq_true rfl⟩ ⟨Nat.le_refl _, Nat.le_refl _⟩) hS (fun r_355 σ_357 H locs hP_356 hS => ?_)
                      obtain ⟨rfl, rfl⟩ := hP_356
                      refine tl_cq (t_S (n := 1) C hml hS (m_parentOf_r l X σ_346 (ad q) (kr q) (X.2.2.2 1) ((lf q).map ad) ((rg q).map ad) (some (ad g)) (co_348 q) fn_353) q775 q776 q74 q777 (by decide +kernel) rfl hl.1 rfl (Nat.le_of_ble_eq_true rfl) dJ21_fixAfterInsertion_130 ⟨Nat.le_of_ble_eq_true rfl, Nat.le_of_ble_eq_true rfl⟩ ⟨Nat.le_refl _, Nat.le_refl _⟩) hS (fun r_358 σ_360 H locs hP_359 hS => ?_)
                      obtain ⟨rfl, rfl⟩ := hP_359
                      refine ti_const C.1 C.2.1 dJ21_fixAfterInsertion_133 ?_
                      refine tl_cv (t_S (n := 2) C hml hS (m_setColor l X σ_346 (ad g) (kr g) (X.2.2.2 1) ((lf g).map ad) ((rg g).map ad) ((pa g).map ad) (co_348 g) (hT_347.2.1 g sg).1 0 (by decide)) q787 q788 q74 q789 (by decide +kernel) rfl hl.1 rfl (Nat.le_of_ble_eq_true rfl) dJ21_fixAfterInsertion_134 ⟨Nat.le_of_ble_eq_true rfl, Nat.le_of_ble_eq_true rfl⟩ ⟨Nat.le_refl _, Nat.le_refl _⟩) hS (fun σ_363 H locs hP_362 hS => ?_)
                      have hF_366 := TF.up hF_349 (hT_347.2.1 g sg).1 (Or.inr rfl) hP_362 hS.fix
                      have hT_364 := TM.color hT_347 sg (c2 := 0) (Or.inl rfl) hP_362
                      obtain ⟨co_365, eco_365⟩ : ∃ z, z = fup co_348 g 0 := ⟨_, rfl⟩
                      rw [← eco_365] at hT_364
                      have hcol_367 : co_365 q = 1 := by rw [eco_365, fup_n (by omega)]; exact hcol_350
                      have hcol_368 : co_365 g = 0 := by rw [eco_365, fup_s]
                      have fT_369 : σ_363 T = some (oO 13 [.null, .null, .null, .ref (ad k0), .int (iI (n)), .int (iI (md)), .null, va_rf (ks), .null]) := by rw [hT_364.1, hk0]; rfl
                      have fn_370 : σ_363 (ad kz) = some (oO 16 [.ref (kr kz), .ref (X.2.2.2 1), va_rf ((lf kz).map ad), va_rf ((rg kz).map ad), .ref (ad q), .int (iI (co_365 kz))]) := by rw [(hT_364.2.1 kz sk).1, hpq]; rfl
                      have fn_371 : σ_363 (ad q) = some (oO 16 [.ref (kr q), .ref (X.2.2.2 1), va_rf ((lf q).map ad), va_rf ((rg q).map ad), .ref (ad g), .int (iI (co_365 q))]) := by rw [(hT_364.2.1 q sq).1, hpg]; rfl
                      have fn_372 : σ_363 (ad g) = some (oO 16 [.ref (kr g), .ref (X.2.2.2 1), .ref (ad q), va_rf ((rg g).map ad), va_rf ((pa g).map ad), .int (iI (co_365 g))]) := by rw [(hT_364.2.1 g sg).1, hgq]; rfl
                      refine lv_aload_n C.1 C.2.1 dJ21_fixAfterInsertion_137 rfl (lv_at hl 1 rfl) ?_
                      refine lv_aload_n C.1 C.2.1 dJ21_fixAfterInsertion_138 rfl (lv_at hl 2 rfl) ?_
                      refine tl_cq (t_S (n := 1) C hml hS (m_parentOf_r l X σ_363 (ad kz) (kr kz) (X.2.2.2 1) ((lf kz).map ad) ((rg kz).map ad) (some (ad q)) (co_365 kz) fn_370) q775 q776 q74 q777 (by decide +kernel) rfl hl.1 rfl (Nat.le_of_ble_eq_true rfl) dJ21_fixAfterInsertion_139 ⟨Nat.le_of_ble_eq_true rfl, Nat.le_of_ble_eq_true rfl⟩ ⟨Nat.le_refl _, Nat.le_refl _⟩) hS (fun r_373 σ_375 H locs hP_374 hS => ?_)
                      obtain ⟨rfl, rfl⟩ := hP_374
                      refine tl_cq (t_S (n := 1) C hml hS (m_parentOf_r l X σ_363 (ad q) (kr q) (X.2.2.2 1) ((lf q).map ad) ((rg q).map ad) (some (ad g)) (co_365 q) fn_371) q775 q776 q74 q777 (by decide +kernel) rfl hl.1 rfl (Nat.le_of_ble_eq_true rfl) dJ21_fixAfterInsertion_142 ⟨Nat.le_of_ble_eq_true rfl, Nat.le_of_ble_eq_true rfl⟩ ⟨Nat.le_refl _, Nat.le_refl _⟩) hS (fun r_376 σ_378 H locs hP_377 hS => ?_)
                      obtain ⟨rfl, rfl⟩ := hP_377
                      refine tl_cv (t_V (n := 1) (ci := 13) C hml hS (m_rotR l X σ_363 T n md ks N S rt lf rg pa lo hi co_365 ad kr hT_364 hB g q sg hgq) q794 q796 qs9 q74 q797 (by decide +kernel) fT_369 rfl rfl hl.1 rfl (Nat.le_of_ble_eq_true rfl) dJ21_fixAfterInsertion_145 ⟨Nat.le_of_ble_eq_true rfl, Nat.le_of_ble_eq_true rfl⟩ ⟨Nat.le_refl _, Nat.le_refl _⟩) hS (fun σ_381 H locs hP_380 hS => ?_)
                      obtain ⟨hT_382, hF_383⟩ := hP_380
                      have hF_383 := hF_366.tr hF_383
                      have hB_384 := hB.rotR sg hgq
                      obtain ⟨kr__385, hk_386⟩ : ∃ k, (rlT rt g q) = some k := by cases h : (rlT rt g q) with | none => exact absurd sk (hB_384.2.2.2.2.2.2.2 h kz) | some k => exact ⟨k, rfl⟩
                      have sk_387 := (hB_384.2.2.2.2.2.2.1 kr__385 hk_386).1
                      have fT_388 : σ_381 T = some (oO 13 [.null, .null, .null, .ref (ad kr__385), .int (iI (n)), .int (iI (md)), .null, va_rf (ks), .null]) := by rw [hT_382.1, hk_386]; rfl
                      have fn_389 : σ_381 (ad kz) = some (oO 16 [.ref (kr kz), .ref (X.2.2.2 1), va_rf (((rlR rg lf g q) kz).map ad), va_rf (((rlL rg g q) kz).map ad), .ref (ad q), .int (iI (co_365 kz))]) := by rw [(hT_382.2.1 kz sk).1, o1]; rfl
                      have fn_390 : σ_381 (ad q) = some (oO 16 [.ref (kr q), .ref (X.2.2.2 1), va_rf (((rlR rg lf g q) q).map ad), va_rf (((rlL rg g q) q).map ad), va_rf (((rlP rg pa g q) q).map ad), .int (iI (co_365 q))]) := by exact (hT_382.2.1 q sq).1
                      have fn_391 : σ_381 (ad g) = some (oO 16 [.ref (kr g), .ref (X.2.2.2 1), va_rf (((rlR rg lf g q) g).map ad), va_rf (((rlL rg g q) g).map ad), va_rf (((rlP rg pa g q) g).map ad), .int (iI (co_365 g))]) := by exact (hT_382.2.1 g sg).1
                      refine lv_goto (tgt := 5) C.1 C.2.1 dJ21_fixAfterInsertion_148 (by decide) ?_
                      refine lv_aload_n C.1 C.2.1 dJ21_fixAfterInsertion_5 rfl (lv_at hl 2 rfl) ?_
                      refine lv_ifnull C.1 C.2.1 dJ21_fixAfterInsertion_6 ?_
                      refine lv_aload_n C.1 C.2.1 dJ21_fixAfterInsertion_9 rfl (lv_at hl 2 rfl) ?_
                      refine lv_aload_n C.1 C.2.1 dJ21_fixAfterInsertion_10 rfl (lv_at hl 1 rfl) ?_
                      refine gf_J21_101_13 C hS fT_388 rfl dJ21_fixAfterInsertion_11 ?_
                      refine lv_acmp_eq (tgt := 258) (rx := (some (ad kz))) (ry := (some (ad kr__385))) C.1 C.2.1 dJ21_fixAfterInsertion_14 (by decide) (fun hc_392 => ?_) (fun hc_392 => ?_)
                      · skip
                        have fT_393 : σ_381 T = some (oO 13 [.null, .null, .null, .ref (ad kr__385), .int (iI (n)), .int (iI (md)), .null, va_rf (ks), .null]) := by rw [hT_382.1, hk_386]; rfl
                        have fn_394 : σ_381 (ad kr__385) = some (oO 16 [.ref (kr kr__385), .ref (X.2.2.2 1), va_rf (((rlR rg lf g q) kr__385).map ad), va_rf (((rlL rg g q) kr__385).map ad), va_rf (((rlP rg pa g q) kr__385).map ad), .int (iI (co_365 kr__385))]) := by exact (hT_382.2.1 kr__385 sk_387).1
                        refine lv_aload_n C.1 C.2.1 dJ21_fixAfterInsertion_258 rfl (lv_at hl 1 rfl) ?_
                        refine gf_J21_101_13 C hS fT_393 rfl dJ21_fixAfterInsertion_259 ?_
                        refine ti_const C.1 C.2.1 dJ21_fixAfterInsertion_262 ?_
                        refine gp_J21_290_16 C hS fn_394 (by decide) (by decide) (Nat.le_of_ble_eq_true rfl) dJ21_fixAfterInsertion_263 (fun H locs hS => ?_)
                        obtain ⟨σ_395, eσ_395⟩ : ∃ z, z = va_up σ_381 (ad kr__385) (some (oO 16 [.ref (kr kr__385), .ref (X.2.2.2 1), va_rf (((rlR rg lf g q) kr__385).map ad), va_rf (((rlL rg g q) kr__385).map ad), va_rf (((rlP rg pa g q) kr__385).map ad), .int (iI (1))])) := ⟨_, rfl⟩
                        have hS : tl_S X s σ_395 H locs := by rw [eσ_395]; exact hS
                        have he_396 := up_kp eσ_395 (tl_ne fT_393 fn_394 (by decide)) fT_393
                        have he_397 : σ_395 (ad kr__385) = some (oO 16 [.ref (kr kr__385), .ref (X.2.2.2 1), va_rf (((rlR rg lf g q) kr__385).map ad), va_rf (((rlL rg g q) kr__385).map ad), va_rf (((rlP rg pa g q) kr__385).map ad), .int (iI (1))]) := by rw [eσ_395]; exact up_s
                        exact r_v C hr hlk hS ⟨(rlT rt g q), (rlR rg lf g q), (rlL rg g q), (rlP rg pa g q), (fup lo g q), (fup hi q (hi g)), fup co_365 kr__385 1, TM.color hT_382 sk_387 (Or.inr rfl) eσ_395, hB_384, TF.up hF_383 (hT_382.2.1 kr__385 sk_387).1 (Or.inr rfl) eσ_395 hS.fix, (fun k h => by rw [hk_386] at h; cases h; exact fup_s)⟩ dJ21_fixAfterInsertion_266
                      · skip
                        refine lv_aload_n C.1 C.2.1 dJ21_fixAfterInsertion_17 rfl (lv_at hl 2 rfl) ?_
                        refine gf_J21_124_16 C hS fn_389 rfl dJ21_fixAfterInsertion_18 ?_
                        refine gf_J21_290_16 C hS fn_390 rfl dJ21_fixAfterInsertion_21 ?_
                        refine ti_if_ne (tgt := 258) C.1 C.2.1 dJ21_fixAfterInsertion_24 (by decide) ⟨by omega, by omega⟩ (fun hc_398 => ?_) (fun hc_398 => ?_)
                        · skip
                          have fT_399 : σ_381 T = some (oO 13 [.null, .null, .null, .ref (ad kr__385), .int (iI (n)), .int (iI (md)), .null, va_rf (ks), .null]) := by rw [hT_382.1, hk_386]; rfl
                          have fn_400 : σ_381 (ad kr__385) = some (oO 16 [.ref (kr kr__385), .ref (X.2.2.2 1), va_rf (((rlR rg lf g q) kr__385).map ad), va_rf (((rlL rg g q) kr__385).map ad), va_rf (((rlP rg pa g q) kr__385).map ad), .int (iI (co_365 kr__385))]) := by exact (hT_382.2.1 kr__385 sk_387).1
                          refine lv_aload_n C.1 C.2.1 dJ21_fixAfterInsertion_258 rfl (lv_at hl 1 rfl) ?_
                          refine gf_J21_101_13 C hS fT_399 rfl dJ21_fixAfterInsertion_259 ?_
                          refine ti_const C.1 C.2.1 dJ21_fixAfterInsertion_262 ?_
                          refine gp_J21_290_16 C hS fn_400 (by decide) (by decide) (Nat.le_of_ble_eq_true rfl) dJ21_fixAfterInsertion_263 (fun H locs hS => ?_)
                          obtain ⟨σ_401, eσ_401⟩ : ∃ z, z = va_up σ_381 (ad kr__385) (some (oO 16 [.ref (kr kr__385), .ref (X.2.2.2 1), va_rf (((rlR rg lf g q) kr__385).map ad), va_rf (((rlL rg g q) kr__385).map ad), va_rf (((rlP rg pa g q) kr__385).map ad), .int (iI (1))])) := ⟨_, rfl⟩
                          have hS : tl_S X s σ_401 H locs := by rw [eσ_401]; exact hS
                          have he_402 := up_kp eσ_401 (tl_ne fT_399 fn_400 (by decide)) fT_399
                          have he_403 : σ_401 (ad kr__385) = some (oO 16 [.ref (kr kr__385), .ref (X.2.2.2 1), va_rf (((rlR rg lf g q) kr__385).map ad), va_rf (((rlL rg g q) kr__385).map ad), va_rf (((rlP rg pa g q) kr__385).map ad), .int (iI (1))]) := by rw [eσ_401]; exact up_s
                          exact r_v C hr hlk hS ⟨(rlT rt g q), (rlR rg lf g q), (rlL rg g q), (rlP rg pa g q), (fup lo g q), (fup hi q (hi g)), fup co_365 kr__385 1, TM.color hT_382 sk_387 (Or.inr rfl) eσ_401, hB_384, TF.up hF_383 (hT_382.2.1 kr__385 sk_387).1 (Or.inr rfl) eσ_401 hS.fix, (fun k h => by rw [hk_386] at h; cases h; exact fup_s)⟩ dJ21_fixAfterInsertion_266
                        · skip
                          exfalso; omega
                    · skip
                      exact absurd hc_340.symm (fun z => by obtain ⟨u, u1, u2⟩ := Option.map_eq_some_iff.mp z; exact hin (by rw [u1, hT1.2.2 _ _ ((hB.2.2.2.2.1 q sq).1 u u1).1 sk u2]))
                · skip
                  refine lv_aload_n C.1 C.2.1 dJ21_fixAfterInsertion_62 rfl (lv_at hl 2 rfl) ?_
                  refine tl_cq (t_S (n := 1) C hml hS (m_parentOf_r l X σc (ad kz) (kr kz) (X.2.2.2 1) ((lf kz).map ad) ((rg kz).map ad) (some (ad q)) (co1 kz) fn_223) q775 q776 q74 q777 (by decide +kernel) rfl hl.1 rfl (Nat.le_of_ble_eq_true rfl) dJ21_fixAfterInsertion_63 ⟨Nat.le_of_ble_eq_true rfl, Nat.le_of_ble_eq_true rfl⟩ ⟨Nat.le_refl _, Nat.le_refl _⟩) hS (fun r_404 σ_406 H locs hP_405 hS => ?_)
                  obtain ⟨rfl, rfl⟩ := hP_405
                  refine ti_const C.1 C.2.1 dJ21_fixAfterInsertion_66 ?_
                  refine tl_cv (t_S (n := 2) C hml hS (m_setColor l X σc (ad q) (kr q) (X.2.2.2 1) ((lf q).map ad) ((rg q).map ad) ((pa q).map ad) (co1 q) (hT1.2.1 q sq).1 1 (by decide)) q787 q788 q74 q789 (by decide +kernel) rfl hl.1 rfl (Nat.le_of_ble_eq_true rfl) dJ21_fixAfterInsertion_67 ⟨Nat.le_of_ble_eq_true rfl, Nat.le_of_ble_eq_true rfl⟩ ⟨Nat.le_refl _, Nat.le_refl _⟩) hS (fun σ_409 H locs hP_408 hS => ?_)
                  have hF_412 := TF.up hF1 (hT1.2.1 q sq).1 (Or.inr rfl) hP_408 hS.fix
                  have hT_410 := TM.color hT1 sq (c2 := 1) (Or.inr rfl) hP_408
                  obtain ⟨co_411, eco_411⟩ : ∃ z, z = fup co1 q 1 := ⟨_, rfl⟩
                  rw [← eco_411] at hT_410
                  have hcol_413 : co_411 q = 1 := by rw [eco_411, fup_s]
                  have fT_414 : σ_409 T = some (oO 13 [.null, .null, .null, .ref (ad k0), .int (iI (n)), .int (iI (md)), .null, va_rf (ks), .null]) := by rw [hT_410.1, hk0]; rfl
                  have fn_415 : σ_409 (ad kz) = some (oO 16 [.ref (kr kz), .ref (X.2.2.2 1), va_rf ((lf kz).map ad), va_rf ((rg kz).map ad), .ref (ad q), .int (iI (co_411 kz))]) := by rw [(hT_410.2.1 kz sk).1, hpq]; rfl
                  have fn_416 : σ_409 (ad q) = some (oO 16 [.ref (kr q), .ref (X.2.2.2 1), va_rf ((lf q).map ad), va_rf ((rg q).map ad), .ref (ad g), .int (iI (co_411 q))]) := by rw [(hT_410.2.1 q sq).1, hpg]; rfl
                  have fn_417 : σ_409 (ad g) = some (oO 16 [.ref (kr g), .ref (X.2.2.2 1), .ref (ad q), .ref (ad u), va_rf ((pa g).map ad), .int (iI (co_411 g))]) := by rw [(hT_410.2.1 g sg).1, hgq, hgu]; rfl
                  have fn_418 : σ_409 (ad u) = some (oO 16 [.ref (kr u), .ref (X.2.2.2 1), va_rf ((lf u).map ad), va_rf ((rg u).map ad), va_rf ((pa u).map ad), .int (iI (co_411 u))]) := by exact (hT_410.2.1 u su).1
                  refine lv_aload_n C.1 C.2.1 dJ21_fixAfterInsertion_70 rfl (lv_at hl 0 rfl) ?_
                  refine ti_const C.1 C.2.1 dJ21_fixAfterInsertion_71 ?_
                  refine tl_cv (t_S (n := 2) C hml hS (m_setColor l X σ_409 (ad u) (kr u) (X.2.2.2 1) ((lf u).map ad) ((rg u).map ad) ((pa u).map ad) (co_411 u) (hT_410.2.1 u su).1 1 (by decide)) q787 q788 q74 q789 (by decide +kernel) rfl hl.1 rfl (Nat.le_of_ble_eq_true rfl) dJ21_fixAfterInsertion_72 ⟨Nat.le_of_ble_eq_true rfl, Nat.le_of_ble_eq_true rfl⟩ ⟨Nat.le_refl _, Nat.le_refl _⟩) hS (fun σ_421 H locs hP_420 hS => ?_)
                  have hF_424 := TF.up hF_412 (hT_410.2.1 u su).1 (Or.inr rfl) hP_420 hS.fix
                  have hT_422 := TM.color hT_410 su (c2 := 1) (Or.inr rfl) hP_420
                  obtain ⟨co_423, eco_423⟩ : ∃ z, z = fup co_411 u 1 := ⟨_, rfl⟩
                  rw [← eco_423] at hT_422
                  have hcol_425 : co_423 q = 1 := by rw [eco_423, fup_n (by omega)]; exact hcol_413
                  have hcol_426 : co_423 u = 1 := by rw [eco_423, fup_s]
                  have fT_427 : σ_421 T = some (oO 13 [.null, .null, .null, .ref (ad k0), .int (iI (n)), .int (iI (md)), .null, va_rf (ks), .null]) := by rw [hT_422.1, hk0]; rfl
                  have fn_428 : σ_421 (ad kz) = some (oO 16 [.ref (kr kz), .ref (X.2.2.2 1), va_rf ((lf kz).map ad), va_rf ((rg kz).map ad), .ref (ad q), .int (iI (co_423 kz))]) := by rw [(hT_422.2.1 kz sk).1, hpq]; rfl
                  have fn_429 : σ_421 (ad q) = some (oO 16 [.ref (kr q), .ref (X.2.2.2 1), va_rf ((lf q).map ad), va_rf ((rg q).map ad), .ref (ad g), .int (iI (co_423 q))]) := by rw [(hT_422.2.1 q sq).1, hpg]; rfl
                  have fn_430 : σ_421 (ad g) = some (oO 16 [.ref (kr g), .ref (X.2.2.2 1), .ref (ad q), .ref (ad u), va_rf ((pa g).map ad), .int (iI (co_423 g))]) := by rw [(hT_422.2.1 g sg).1, hgq, hgu]; rfl
                  have fn_431 : σ_421 (ad u) = some (oO 16 [.ref (kr u), .ref (X.2.2.2 1), va_rf ((lf u).map ad), va_rf ((rg u).map ad), va_rf ((pa u).map ad), .int (iI (co_423 u))]) := by exact (hT_422.2.1 u su).1
                  refine lv_aload_n C.1 C.2.1 dJ21_fixAfterInsertion_75 rfl (lv_at hl 2 rfl) ?_
                  refine tl_cq (t_S (n := 1) C hml hS (m_parentOf_r l X σ_421 (ad kz) (kr kz) (X.2.2.2 1) ((lf kz).map ad) ((rg kz).map ad) (some (ad q)) (co_423 kz) fn_428) q775 q776 q74 q777 (by decide +kernel) rfl hl.1 rfl (Nat.le_of_ble_eq_true rfl) dJ21_fixAfterInsertion_76 ⟨Nat.le_of_ble_eq_true rfl, Nat.le_of_ble_eq_true rfl⟩ ⟨Nat.le_refl _, Nat.le_refl _⟩) hS (fun r_432 σ_434 H locs hP_433 hS => ?_)
                  obtain ⟨rfl, rfl⟩ := hP_433
                  refine tl_cq (t_S (n := 1) C hml hS (m_parentOf_r l X σ_421 (ad q) (kr q) (X.2.2.2 1) ((lf q).map ad) ((rg q).map ad) (some (ad g)) (co_423 q) fn_429) q775 q776 q74 q777 (by decide +kernel) rfl hl.1 rfl (Nat.le_of_ble_eq_true rfl) dJ21_fixAfterInsertion_79 ⟨Nat.le_of_ble_eq_true rfl, Nat.le_of_ble_eq_true rfl⟩ ⟨Nat.le_refl _, Nat.le_refl _⟩) hS (fun r_435 σ_437 H locs hP_436 hS => ?_)
                  obtain ⟨rfl, rfl⟩ := hP_436
                  refine ti_const C.1 C.2.1 dJ21_fixAfterInsertion_82 ?_
                  refine tl_cv (t_S (n := 2) C hml hS (m_setColor l X σ_421 (ad g) (kr g) (X.2.2.2 1) ((lf g).map ad) ((rg g).map ad) ((pa g).map ad) (co_423 g) (hT_422.2.1 g sg).1 0 (by decide)) q787 q788 q74 q789 (by decide +kernel) rfl hl.1 rfl (Nat.le_of_ble_eq_true rfl) dJ21_fixAfterInsertion_83 ⟨Nat.le_of_ble_eq_true rfl, Nat.le_of_ble_eq_true rfl⟩ ⟨Nat.le_refl _, Nat.le_refl _⟩) hS (fun σ_440 H locs hP_439 hS => ?_)
                  have hF_443 := TF.up hF_424 (hT_422.2.1 g sg).1 (Or.inr rfl) hP_439 hS.fix
                  have hT_441 := TM.color hT_422 sg (c2 := 0) (Or.inl rfl) hP_439
                  obtain ⟨co_442, eco_442⟩ : ∃ z, z = fup co_423 g 0 := ⟨_, rfl⟩
                  rw [← eco_442] at hT_441
                  have hcol_444 : co_442 q = 1 := by rw [eco_442, fup_n (by omega)]; exact hcol_425
                  have hcol_445 : co_442 u = 1 := by rw [eco_442, fup_n (by omega)]; exact hcol_426
                  have hcol_446 : co_442 g = 0 := by rw [eco_442, fup_s]
                  have fT_447 : σ_440 T = some (oO 13 [.null, .null, .null, .ref (ad k0), .int (iI (n)), .int (iI (md)), .null, va_rf (ks), .null]) := by rw [hT_441.1, hk0]; rfl
                  have fn_448 : σ_440 (ad kz) = some (oO 16 [.ref (kr kz), .ref (X.2.2.2 1), va_rf ((lf kz).map ad), va_rf ((rg kz).map ad), .ref (ad q), .int (iI (co_442 kz))]) := by rw [(hT_441.2.1 kz sk).1, hpq]; rfl
                  have fn_449 : σ_440 (ad q) = some (oO 16 [.ref (kr q), .ref (X.2.2.2 1), va_rf ((lf q).map ad), va_rf ((rg q).map ad), .ref (ad g), .int (iI (co_442 q))]) := by rw [(hT_441.2.1 q sq).1, hpg]; rfl
                  have fn_450 : σ_440 (ad g) = some (oO 16 [.ref (kr g), .ref (X.2.2.2 1), .ref (ad q), .ref (ad u), va_rf ((pa g).map ad), .int (iI (co_442 g))]) := by rw [(hT_441.2.1 g sg).1, hgq, hgu]; rfl
                  have fn_451 : σ_440 (ad u) = some (oO 16 [.ref (kr u), .ref (X.2.2.2 1), va_rf ((lf u).map ad), va_rf ((rg u).map ad), va_rf ((pa u).map ad), .int (iI (co_442 u))]) := by exact (hT_441.2.1 u su).1
                  refine lv_aload_n C.1 C.2.1 dJ21_fixAfterInsertion_86 rfl (lv_at hl 2 rfl) ?_
                  refine tl_cq (t_S (n := 1) C hml hS (m_parentOf_r l X σ_440 (ad kz) (kr kz) (X.2.2.2 1) ((lf kz).map ad) ((rg kz).map ad) (some (ad q)) (co_442 kz) fn_448) q775 q776 q74 q777 (by decide +kernel) rfl hl.1 rfl (Nat.le_of_ble_eq_true rfl) dJ21_fixAfterInsertion_87 ⟨Nat.le_of_ble_eq_true rfl, Nat.le_of_ble_eq_true rfl⟩ ⟨Nat.le_refl _, Nat.le_refl _⟩) hS (fun r_452 σ_454 H locs hP_453 hS => ?_)
                  obtain ⟨rfl, rfl⟩ := hP_453
                  refine tl_cq (t_S (n := 1) C hml hS (m_parentOf_r l X σ_440 (ad q) (kr q) (X.2.2.2 1) ((lf q).map ad) ((rg q).map ad) (some (ad g)) (co_442 q) fn_449) q775 q776 q74 q777 (by decide +kernel) rfl hl.1 rfl (Nat.le_of_ble_eq_true rfl) dJ21_fixAfterInsertion_90 ⟨Nat.le_of_ble_eq_true rfl, Nat.le_of_ble_eq_true rfl⟩ ⟨Nat.le_refl _, Nat.le_refl _⟩) hS (fun r_455 σ_457 H locs hP_456 hS => ?_)
                  obtain ⟨rfl, rfl⟩ := hP_456
                  refine lv_astore_n (lv' := [(1, .ref (ad g)), (2, .ref (ad u)), (0, .ref (T))]) C.1 C.2.1 dJ21_fixAfterInsertion_93 rfl hl (by decide) rfl (fun ls hl => ?_)
                  refine lv_goto (tgt := 148) C.1 C.2.1 dJ21_fixAfterInsertion_94 (by decide) ?_
                  refine lv_goto (tgt := 5) C.1 C.2.1 dJ21_fixAfterInsertion_148 (by decide) ?_
                  exact ih_5 (ad g) g ⟨sg, rfl⟩ (by omega) σ_440 co_442 hT_441 hF_443 (if z : g = k0 then Or.inl (by rw [z]; exact hk0) else Or.inr (fun k h => by rw [hk0] at h; cases h; have hb := hrb.resolve_left (fun v => hkn (Option.some.inj (v.symm.trans hk0))) k0 hk0; rw [eco_442, eco_423, eco_411]; simp only [fup]; rw [if_neg (fun v => z v.symm)]; split; (rfl); (split; (rfl); exact hb))) _ _ _ hS (lv_sub hl [2, 0] rfl)
          · skip
            obtain ⟨-, -, eq1, eq2⟩ := (hB.2.2.2.2.1 g sg).1 q hgq
            have fT_458 : σc T = some (oO 13 [.null, .null, .null, .ref (ad k0), .int (iI (n)), .int (iI (md)), .null, va_rf (ks), .null]) := by rw [hT1.1, hk0]; rfl
            have fn_459 : σc (ad kz) = some (oO 16 [.ref (kr kz), .ref (X.2.2.2 1), va_rf ((lf kz).map ad), va_rf ((rg kz).map ad), .ref (ad q), .int (iI (co1 kz))]) := by rw [(hT1.2.1 kz sk).1, hpq]; rfl
            have fn_460 : σc (ad q) = some (oO 16 [.ref (kr q), .ref (X.2.2.2 1), va_rf ((lf q).map ad), va_rf ((rg q).map ad), .ref (ad g), .int (iI (co1 q))]) := by rw [(hT1.2.1 q sq).1, hpg]; rfl
            have fn_461 : σc (ad g) = some (oO 16 [.ref (kr g), .ref (X.2.2.2 1), va_rf ((lf g).map ad), .ref (ad q), va_rf ((pa g).map ad), .int (iI (co1 g))]) := by rw [(hT1.2.1 g sg).1, hgq]; rfl
            have hgn : lf g ≠ some q := fun z => by obtain ⟨-, -, u1, u2⟩ := (hB.2.2.2.1 g sg).1 q z; omega
            refine lv_aload_n C.1 C.2.1 dJ21_fixAfterInsertion_27 rfl (lv_at hl 1 rfl) ?_
            refine tl_cq (t_S (n := 1) C hml hS (m_parentOf_r l X σc (ad kz) (kr kz) (X.2.2.2 1) ((lf kz).map ad) ((rg kz).map ad) (some (ad q)) (co1 kz) fn_459) q775 q776 q74 q777 (by decide +kernel) rfl hl.1 rfl (Nat.le_of_ble_eq_true rfl) dJ21_fixAfterInsertion_28 ⟨Nat.le_of_ble_eq_true rfl, Nat.le_of_ble_eq_true rfl⟩ ⟨Nat.le_refl _, Nat.le_refl _⟩) hS (fun r_462 σ_464 H locs hP_463 hS => ?_)
            obtain ⟨rfl, rfl⟩ := hP_463
            refine lv_aload_n C.1 C.2.1 dJ21_fixAfterInsertion_31 rfl (lv_at hl 1 rfl) ?_
            refine tl_cq (t_S (n := 1) C hml hS (m_parentOf_r l X σc (ad kz) (kr kz) (X.2.2.2 1) ((lf kz).map ad) ((rg kz).map ad) (some (ad q)) (co1 kz) fn_459) q775 q776 q74 q777 (by decide +kernel) rfl hl.1 rfl (Nat.le_of_ble_eq_true rfl) dJ21_fixAfterInsertion_32 ⟨Nat.le_of_ble_eq_true rfl, Nat.le_of_ble_eq_true rfl⟩ ⟨Nat.le_refl _, Nat.le_refl _⟩) hS (fun r_465 σ_467 H locs hP_466 hS => ?_)
            obtain ⟨rfl, rfl⟩ := hP_466
            refine tl_cq (t_S (n := 1) C hml hS (m_parentOf_r l X σc (ad q) (kr q) (X.2.2.2 1) ((lf q).map ad) ((rg q).map ad) (some (ad g)) (co1 q) fn_460) q775 q776 q74 q777 (by decide +kernel) rfl hl.1 rfl (Nat.le_of_ble_eq_true rfl) dJ21_fixAfterInsertion_35 ⟨Nat.le_of_ble_eq_true rfl, Nat.le_of_ble_eq_true rfl⟩ ⟨Nat.le_refl _, Nat.le_refl _⟩) hS (fun r_468 σ_470 H locs hP_469 hS => ?_)
            obtain ⟨rfl, rfl⟩ := hP_469
            refine tl_cq (t_S (n := 1) C hml hS (m_leftOf_r l X σc (ad g) (kr g) (X.2.2.2 1) ((lf g).map ad) (some (ad q)) ((pa g).map ad) (co1 g) fn_461) q778 q779 q74 q780 (by decide +kernel) rfl hl.1 rfl (Nat.le_of_ble_eq_true rfl) dJ21_fixAfterInsertion_38 ⟨Nat.le_of_ble_eq_true rfl, Nat.le_of_ble_eq_true rfl⟩ ⟨Nat.le_refl _, Nat.le_refl _⟩) hS (fun r_471 σ_473 H locs hP_472 hS => ?_)
            obtain ⟨rfl, rfl⟩ := hP_472
            refine lv_acmp_ne (tgt := 151) (rx := (some (ad q))) (ry := ((lf g).map ad)) C.1 C.2.1 dJ21_fixAfterInsertion_41 (by decide) (fun hc_474 => ?_) (fun hc_474 => ?_)
            · skip
              cases hgu : lf g with
              | none =>
                have fT_475 : σc T = some (oO 13 [.null, .null, .null, .ref (ad k0), .int (iI (n)), .int (iI (md)), .null, va_rf (ks), .null]) := by rw [hT1.1, hk0]; rfl
                have fn_476 : σc (ad kz) = some (oO 16 [.ref (kr kz), .ref (X.2.2.2 1), va_rf ((lf kz).map ad), va_rf ((rg kz).map ad), .ref (ad q), .int (iI (co1 kz))]) := by rw [(hT1.2.1 kz sk).1, hpq]; rfl
                have fn_477 : σc (ad q) = some (oO 16 [.ref (kr q), .ref (X.2.2.2 1), va_rf ((lf q).map ad), va_rf ((rg q).map ad), .ref (ad g), .int (iI (co1 q))]) := by rw [(hT1.2.1 q sq).1, hpg]; rfl
                have fn_478 : σc (ad g) = some (oO 16 [.ref (kr g), .ref (X.2.2.2 1), .null, .ref (ad q), va_rf ((pa g).map ad), .int (iI (co1 g))]) := by rw [(hT1.2.1 g sg).1, hgu, hgq]; rfl
                refine lv_aload_n C.1 C.2.1 dJ21_fixAfterInsertion_151 rfl (lv_at hl 1 rfl) ?_
                refine tl_cq (t_S (n := 1) C hml hS (m_parentOf_r l X σc (ad kz) (kr kz) (X.2.2.2 1) ((lf kz).map ad) ((rg kz).map ad) (some (ad q)) (co1 kz) fn_476) q775 q776 q74 q777 (by decide +kernel) rfl hl.1 rfl (Nat.le_of_ble_eq_true rfl) dJ21_fixAfterInsertion_152 ⟨Nat.le_of_ble_eq_true rfl, Nat.le_of_ble_eq_true rfl⟩ ⟨Nat.le_refl _, Nat.le_refl _⟩) hS (fun r_479 σ_481 H locs hP_480 hS => ?_)
                obtain ⟨rfl, rfl⟩ := hP_480
                refine tl_cq (t_S (n := 1) C hml hS (m_parentOf_r l X σc (ad q) (kr q) (X.2.2.2 1) ((lf q).map ad) ((rg q).map ad) (some (ad g)) (co1 q) fn_477) q775 q776 q74 q777 (by decide +kernel) rfl hl.1 rfl (Nat.le_of_ble_eq_true rfl) dJ21_fixAfterInsertion_155 ⟨Nat.le_of_ble_eq_true rfl, Nat.le_of_ble_eq_true rfl⟩ ⟨Nat.le_refl _, Nat.le_refl _⟩) hS (fun r_482 σ_484 H locs hP_483 hS => ?_)
                obtain ⟨rfl, rfl⟩ := hP_483
                refine tl_cq (t_S (n := 1) C hml hS (m_leftOf_r l X σc (ad g) (kr g) (X.2.2.2 1) none (some (ad q)) ((pa g).map ad) (co1 g) fn_478) q778 q779 q74 q780 (by decide +kernel) rfl hl.1 rfl (Nat.le_of_ble_eq_true rfl) dJ21_fixAfterInsertion_158 ⟨Nat.le_of_ble_eq_true rfl, Nat.le_of_ble_eq_true rfl⟩ ⟨Nat.le_refl _, Nat.le_refl _⟩) hS (fun r_485 σ_487 H locs hP_486 hS => ?_)
                obtain ⟨rfl, rfl⟩ := hP_486
                refine lv_astore_nN (lv' := [(2, .null), (0, .ref (T)), (1, .ref (ad kz))]) C.1 C.2.1 dJ21_fixAfterInsertion_161 rfl hl (by decide) rfl (fun ls hl => ?_)
                refine lv_aload_nN C.1 C.2.1 dJ21_fixAfterInsertion_162 rfl (lv_at hl 0 rfl) ?_
                refine tl_ci (t_S (n := 1) C hml hS (m_colorOf_n l X σc) q784 q785 q74 q786 (by decide +kernel) rfl hl.1 rfl (Nat.le_of_ble_eq_true rfl) dJ21_fixAfterInsertion_163 ⟨Nat.le_of_ble_eq_true rfl, Nat.le_of_ble_eq_true rfl⟩ ⟨Nat.le_refl _, Nat.le_refl _⟩) hS (fun r_488 σ_490 H locs hP_489 hS => ?_)
                obtain ⟨rfl, rfl⟩ := hP_489
                refine ti_if_ne (tgt := 204) C.1 C.2.1 dJ21_fixAfterInsertion_166 (by decide) ⟨by decide, by decide⟩ (fun hc_491 => ?_) (fun hc_491 => ?_)
                · skip
                  by_cases hin : lf q = some kz
                  · skip
                    obtain ⟨-, -, ei1, ei2⟩ := (hB.2.2.2.1 q sq).1 kz hin
                    have hCk : lf kz ≠ some q := fun z => by obtain ⟨-, u1, -, -⟩ := (hB.2.2.2.1 kz sk).1 q z; rw [hpg] at u1; have := Option.some.inj u1; omega
                    obtain ⟨i1, i2, i3, i4⟩ := fx_in (A := rg) (C := lf) (pa := pa) (q := q) (g := g) (k := kz) (by omega) (by omega) (by omega) hgq hin hpg hCk
                    have fT_492 : σc T = some (oO 13 [.null, .null, .null, .ref (ad k0), .int (iI (n)), .int (iI (md)), .null, va_rf (ks), .null]) := by rw [hT1.1, hk0]; rfl
                    have fn_493 : σc (ad kz) = some (oO 16 [.ref (kr kz), .ref (X.2.2.2 1), va_rf ((lf kz).map ad), va_rf ((rg kz).map ad), .ref (ad q), .int (iI (co1 kz))]) := by rw [(hT1.2.1 kz sk).1, hpq]; rfl
                    have fn_494 : σc (ad q) = some (oO 16 [.ref (kr q), .ref (X.2.2.2 1), .ref (ad kz), va_rf ((rg q).map ad), .ref (ad g), .int (iI (co1 q))]) := by rw [(hT1.2.1 q sq).1, hin, hpg]; rfl
                    have fn_495 : σc (ad g) = some (oO 16 [.ref (kr g), .ref (X.2.2.2 1), va_rf ((lf g).map ad), .ref (ad q), va_rf ((pa g).map ad), .int (iI (co1 g))]) := by rw [(hT1.2.1 g sg).1, hgq]; rfl
                    refine lv_aload_n C.1 C.2.1 dJ21_fixAfterInsertion_204 rfl (lv_at hl 2 rfl) ?_
                    refine lv_aload_n C.1 C.2.1 dJ21_fixAfterInsertion_205 rfl (lv_at hl 2 rfl) ?_
                    refine tl_cq (t_S (n := 1) C hml hS (m_parentOf_r l X σc (ad kz) (kr kz) (X.2.2.2 1) ((lf kz).map ad) ((rg kz).map ad) (some (ad q)) (co1 kz) fn_493) q775 q776 q74 q777 (by decide +kernel) rfl hl.1 rfl (Nat.le_of_ble_eq_true rfl) dJ21_fixAfterInsertion_206 ⟨Nat.le_of_ble_eq_true rfl, Nat.le_of_ble_eq_true rfl⟩ ⟨Nat.le_refl _, Nat.le_refl _⟩) hS (fun r_496 σ_498 H locs hP_497 hS => ?_)
                    obtain ⟨rfl, rfl⟩ := hP_497
                    refine tl_cq (t_S (n := 1) C hml hS (m_leftOf_r l X σc (ad q) (kr q) (X.2.2.2 1) (some (ad kz)) ((rg q).map ad) (some (ad g)) (co1 q) fn_494) q778 q779 q74 q780 (by decide +kernel) rfl hl.1 rfl (Nat.le_of_ble_eq_true rfl) dJ21_fixAfterInsertion_209 ⟨Nat.le_of_ble_eq_true rfl, Nat.le_of_ble_eq_true rfl⟩ ⟨Nat.le_refl _, Nat.le_refl _⟩) hS (fun r_499 σ_501 H locs hP_500 hS => ?_)
                    obtain ⟨rfl, rfl⟩ := hP_500
                    refine lv_acmp_ne (tgt := 225) (rx := (some (ad kz))) (ry := (some (ad kz))) C.1 C.2.1 dJ21_fixAfterInsertion_212 (by decide) (fun hc_502 => ?_) (fun hc_502 => ?_)
                    · skip
                      exact absurd rfl hc_502
                    · skip
                      refine lv_aload_n C.1 C.2.1 dJ21_fixAfterInsertion_215 rfl (lv_at hl 2 rfl) ?_
                      refine tl_cq (t_S (n := 1) C hml hS (m_parentOf_r l X σc (ad kz) (kr kz) (X.2.2.2 1) ((lf kz).map ad) ((rg kz).map ad) (some (ad q)) (co1 kz) fn_493) q775 q776 q74 q777 (by decide +kernel) rfl hl.1 rfl (Nat.le_of_ble_eq_true rfl) dJ21_fixAfterInsertion_216 ⟨Nat.le_of_ble_eq_true rfl, Nat.le_of_ble_eq_true rfl⟩ ⟨Nat.le_refl _, Nat.le_refl _⟩) hS (fun r_503 σ_505 H locs hP_504 hS => ?_)
                      obtain ⟨rfl, rfl⟩ := hP_504
                      refine lv_astore_n (lv' := [(1, .ref (ad q)), (2, .null), (0, .ref (T))]) C.1 C.2.1 dJ21_fixAfterInsertion_219 rfl hl (by decide) rfl (fun ls hl => ?_)
                      refine lv_aload_n C.1 C.2.1 dJ21_fixAfterInsertion_220 rfl (lv_at hl 2 rfl) ?_
                      refine lv_aload_n C.1 C.2.1 dJ21_fixAfterInsertion_221 rfl (lv_at hl 0 rfl) ?_
                      refine tl_cv (t_V (n := 1) (ci := 13) C hml hS (m_rotR l X σc T n md ks N S rt lf rg pa lo hi co1 ad kr hT1 hB q kz sq hin) q794 q796 qs9 q74 q797 (by decide +kernel) fT_492 rfl rfl hl.1 rfl (Nat.le_of_ble_eq_true rfl) dJ21_fixAfterInsertion_222 ⟨Nat.le_of_ble_eq_true rfl, Nat.le_of_ble_eq_true rfl⟩ ⟨Nat.le_refl _, Nat.le_refl _⟩) hS (fun σ_508 H locs hP_507 hS => ?_)
                      obtain ⟨hT_509, hF_510⟩ := hP_507
                      have hF_510 := hF1.tr hF_510
                      have hB_511 := hB.rotR sq hin
                      obtain ⟨kr__512, hk_513⟩ : ∃ k, (rlT rt q kz) = some k := by cases h : (rlT rt q kz) with | none => exact absurd sk (hB_511.2.2.2.2.2.2.2 h kz) | some k => exact ⟨k, rfl⟩
                      have sk_514 := (hB_511.2.2.2.2.2.2.1 kr__512 hk_513).1
                      have fT_515 : σ_508 T = some (oO 13 [.null, .null, .null, .ref (ad kr__512), .int (iI (n)), .int (iI (md)), .null, va_rf (ks), .null]) := by rw [hT_509.1, hk_513]; rfl
                      have fn_516 : σ_508 (ad kz) = some (oO 16 [.ref (kr kz), .ref (X.2.2.2 1), va_rf (((rlR rg lf q kz) kz).map ad), va_rf (((rlL rg q kz) kz).map ad), .ref (ad g), .int (iI (co1 kz))]) := by rw [(hT_509.2.1 kz sk).1, i2]; rfl
                      have fn_517 : σ_508 (ad q) = some (oO 16 [.ref (kr q), .ref (X.2.2.2 1), va_rf (((rlR rg lf q kz) q).map ad), va_rf (((rlL rg q kz) q).map ad), .ref (ad kz), .int (iI (co1 q))]) := by rw [(hT_509.2.1 q sq).1, i3]; rfl
                      have fn_518 : σ_508 (ad g) = some (oO 16 [.ref (kr g), .ref (X.2.2.2 1), va_rf (((rlR rg lf q kz) g).map ad), .ref (ad kz), va_rf (((rlP rg pa q kz) g).map ad), .int (iI (co1 g))]) := by rw [(hT_509.2.1 g sg).1, i1]; rfl
                      refine lv_aload_n C.1 C.2.1 dJ21_fixAfterInsertion_225 rfl (lv_at hl 0 rfl) ?_
                      refine tl_cq (t_S (n := 1) C hml hS (m_parentOf_r l X σ_508 (ad q) (kr q) (X.2.2.2 1) (((rlR rg lf q kz) q).map ad) (((rlL rg q kz) q).map ad) (some (ad kz)) (co1 q) fn_517) q775 q776 q74 q777 (by decide +kernel) rfl hl.1 rfl (Nat.le_of_ble_eq_true rfl) dJ21_fixAfterInsertion_226 ⟨Nat.le_of_ble_eq_true rfl, Nat.le_of_ble_eq_true rfl⟩ ⟨Nat.le_refl _, Nat.le_refl _⟩) hS (fun r_519 σ_521 H locs hP_520 hS => ?_)
                      obtain ⟨rfl, rfl⟩ := hP_520
                      refine ti_const C.1 C.2.1 dJ21_fixAfterInsertion_229 ?_
                      refine tl_cv (t_S (n := 2) C hml hS (m_setColor l X σ_508 (ad kz) (kr kz) (X.2.2.2 1) (((rlR rg lf q kz) kz).map ad) (((rlL rg q kz) kz).map ad) (((rlP rg pa q kz) kz).map ad) (co1 kz) (hT_509.2.1 kz sk).1 1 (by decide)) q787 q788 q74 q789 (by decide +kernel) rfl hl.1 rfl (Nat.le_of_ble_eq_true rfl) dJ21_fixAfterInsertion_230 ⟨Nat.le_of_ble_eq_true rfl, Nat.le_of_ble_eq_true rfl⟩ ⟨Nat.le_refl _, Nat.le_refl _⟩) hS (fun σ_524 H locs hP_523 hS => ?_)
                      have hF_527 := TF.up hF_510 (hT_509.2.1 kz sk).1 (Or.inr rfl) hP_523 hS.fix
                      have hT_525 := TM.color hT_509 sk (c2 := 1) (Or.inr rfl) hP_523
                      obtain ⟨co_526, eco_526⟩ : ∃ z, z = fup co1 kz 1 := ⟨_, rfl⟩
                      rw [← eco_526] at hT_525
                      have hcol_528 : co_526 kz = 1 := by rw [eco_526, fup_s]
                      have fT_529 : σ_524 T = some (oO 13 [.null, .null, .null, .ref (ad kr__512), .int (iI (n)), .int (iI (md)), .null, va_rf (ks), .null]) := by rw [hT_525.1, hk_513]; rfl
                      have fn_530 : σ_524 (ad kz) = some (oO 16 [.ref (kr kz), .ref (X.2.2.2 1), va_rf (((rlR rg lf q kz) kz).map ad), va_rf (((rlL rg q kz) kz).map ad), .ref (ad g), .int (iI (co_526 kz))]) := by rw [(hT_525.2.1 kz sk).1, i2]; rfl
                      have fn_531 : σ_524 (ad q) = some (oO 16 [.ref (kr q), .ref (X.2.2.2 1), va_rf (((rlR rg lf q kz) q).map ad), va_rf (((rlL rg q kz) q).map ad), .ref (ad kz), .int (iI (co_526 q))]) := by rw [(hT_525.2.1 q sq).1, i3]; rfl
                      have fn_532 : σ_524 (ad g) = some (oO 16 [.ref (kr g), .ref (X.2.2.2 1), va_rf (((rlR rg lf q kz) g).map ad), .ref (ad kz), va_rf (((rlP rg pa q kz) g).map ad), .int (iI (co_526 g))]) := by rw [(hT_525.2.1 g sg).1, i1]; rfl
                      refine lv_aload_n C.1 C.2.1 dJ21_fixAfterInsertion_233 rfl (lv_at hl 0 rfl) ?_
                      refine tl_cq (t_S (n := 1) C hml hS (m_parentOf_r l X σ_524 (ad q) (kr q) (X.2.2.2 1) (((rlR rg lf q kz) q).map ad) (((rlL rg q kz) q).map ad) (some (ad kz)) (co_526 q) fn_531) q775 q776 q74 q777 (by decide +kernel) rfl hl.1 rfl (Nat.le_of_ble_eq_true rfl) dJ21_fixAfterInsertion_234 ⟨Nat.le_of_ble_eq_true rfl, Nat.le_of_ble_eq_true rfl⟩ ⟨Nat.le_refl _, Nat.le_refl _⟩) hS (fun r_533 σ_535 H locs hP_534 hS => ?_)
                      obtain ⟨rfl, rfl⟩ := hP_534
                      refine tl_cq (t_S (n := 1) C hml hS (m_parentOf_r l X σ_524 (ad kz) (kr kz) (X.2.2.2 1) (((rlR rg lf q kz) kz).map ad) (((rlL rg q kz) kz).map ad) (some (ad g)) (co_526 kz) fn_530) q775 q776 q74 q777 (by decide +kernel) rfl hl.1 rfl (Nat.le_of_ble_eq_true rfl) dJ21_fixAfterInsertion_237 ⟨Nat.le_of_ble_eq_true rfl, Nat.le_of_ble_eq_true rfl⟩ ⟨Nat.le_refl _, Nat.le_refl _⟩) hS (fun r_536 σ_538 H locs hP_537 hS => ?_)
                      obtain ⟨rfl, rfl⟩ := hP_537
                      refine ti_const C.1 C.2.1 dJ21_fixAfterInsertion_240 ?_
                      refine tl_cv (t_S (n := 2) C hml hS (m_setColor l X σ_524 (ad g) (kr g) (X.2.2.2 1) (((rlR rg lf q kz) g).map ad) (((rlL rg q kz) g).map ad) (((rlP rg pa q kz) g).map ad) (co_526 g) (hT_525.2.1 g sg).1 0 (by decide)) q787 q788 q74 q789 (by decide +kernel) rfl hl.1 rfl (Nat.le_of_ble_eq_true rfl) dJ21_fixAfterInsertion_241 ⟨Nat.le_of_ble_eq_true rfl, Nat.le_of_ble_eq_true rfl⟩ ⟨Nat.le_refl _, Nat.le_refl _⟩) hS (fun σ_541 H locs hP_540 hS => ?_)
                      have hF_544 := TF.up hF_527 (hT_525.2.1 g sg).1 (Or.inr rfl) hP_540 hS.fix
                      have hT_542 := TM.color hT_525 sg (c2 := 0) (Or.inl rfl) hP_540
                      obtain ⟨co_543, eco_543⟩ : ∃ z, z = fup co_526 g 0 := ⟨_, rfl⟩
                      rw [← eco_543] at hT_542
                      have hcol_545 : co_543 kz = 1 := by rw [eco_543, fup_n (by omega)]; exact hcol_528
                      have hcol_546 : co_543 g = 0 := by rw [eco_543, fup_s]
                      have fT_547 : σ_541 T = some (oO 13 [.null, .null, .null, .ref (ad kr__512), .int (iI (n)), .int (iI (md)), .null, va_rf (ks), .null]) := by rw [hT_542.1, hk_513]; rfl
                      have fn_548 : σ_541 (ad kz) = some (oO 16 [.ref (kr kz), .ref (X.2.2.2 1), va_rf (((rlR rg lf q kz) kz).map ad), va_rf (((rlL rg q kz) kz).map ad), .ref (ad g), .int (iI (co_543 kz))]) := by rw [(hT_542.2.1 kz sk).1, i2]; rfl
                      have fn_549 : σ_541 (ad q) = some (oO 16 [.ref (kr q), .ref (X.2.2.2 1), va_rf (((rlR rg lf q kz) q).map ad), va_rf (((rlL rg q kz) q).map ad), .ref (ad kz), .int (iI (co_543 q))]) := by rw [(hT_542.2.1 q sq).1, i3]; rfl
                      have fn_550 : σ_541 (ad g) = some (oO 16 [.ref (kr g), .ref (X.2.2.2 1), va_rf (((rlR rg lf q kz) g).map ad), .ref (ad kz), va_rf (((rlP rg pa q kz) g).map ad), .int (iI (co_543 g))]) := by rw [(hT_542.2.1 g sg).1, i1]; rfl
                      refine lv_aload_n C.1 C.2.1 dJ21_fixAfterInsertion_244 rfl (lv_at hl 2 rfl) ?_
                      refine lv_aload_n C.1 C.2.1 dJ21_fixAfterInsertion_245 rfl (lv_at hl 0 rfl) ?_
                      refine tl_cq (t_S (n := 1) C hml hS (m_parentOf_r l X σ_541 (ad q) (kr q) (X.2.2.2 1) (((rlR rg lf q kz) q).map ad) (((rlL rg q kz) q).map ad) (some (ad kz)) (co_543 q) fn_549) q775 q776 q74 q777 (by decide +kernel) rfl hl.1 rfl (Nat.le_of_ble_eq_true rfl) dJ21_fixAfterInsertion_246 ⟨Nat.le_of_ble_eq_true rfl, Nat.le_of_ble_eq_true rfl⟩ ⟨Nat.le_refl _, Nat.le_refl _⟩) hS (fun r_551 σ_553 H locs hP_552 hS => ?_)
                      obtain ⟨rfl, rfl⟩ := hP_552
                      refine tl_cq (t_S (n := 1) C hml hS (m_parentOf_r l X σ_541 (ad kz) (kr kz) (X.2.2.2 1) (((rlR rg lf q kz) kz).map ad) (((rlL rg q kz) kz).map ad) (some (ad g)) (co_543 kz) fn_548) q775 q776 q74 q777 (by decide +kernel) rfl hl.1 rfl (Nat.le_of_ble_eq_true rfl) dJ21_fixAfterInsertion_249 ⟨Nat.le_of_ble_eq_true rfl, Nat.le_of_ble_eq_true rfl⟩ ⟨Nat.le_refl _, Nat.le_refl _⟩) hS (fun r_554 σ_556 H locs hP_555 hS => ?_)
                      obtain ⟨rfl, rfl⟩ := hP_555
                      refine tl_cv (t_V (n := 1) (ci := 13) C hml hS (m_rotL l X σ_541 T n md ks N S (rlT rt q kz) (rlR rg lf q kz) (rlL rg q kz) (rlP rg pa q kz) (fup lo q kz) (fup hi kz (hi q)) co_543 ad kr hT_542 hB_511 g kz sg i1) q790 q792 qs8 q74 q793 (by decide +kernel) fT_547 rfl rfl hl.1 rfl (Nat.le_of_ble_eq_true rfl) dJ21_fixAfterInsertion_252 ⟨Nat.le_of_ble_eq_true rfl, Nat.le_of_ble_eq_true rfl⟩ ⟨Nat.le_refl _, Nat.le_refl _⟩) hS (fun σ_559 H locs hP_558 hS => ?_)
                      obtain ⟨hT_560, hF_561⟩ := hP_558
                      have hF_561 := hF_544.tr hF_561
                      have hB_562 := hB_511.rotL sg i1
                      obtain ⟨kr__563, hk_564⟩ : ∃ k, (rlT (rlT rt q kz) g kz) = some k := by cases h : (rlT (rlT rt q kz) g kz) with | none => exact absurd sk (hB_562.2.2.2.2.2.2.2 h kz) | some k => exact ⟨k, rfl⟩
                      have sk_565 := (hB_562.2.2.2.2.2.2.1 kr__563 hk_564).1
                      have fT_566 : σ_559 T = some (oO 13 [.null, .null, .null, .ref (ad kr__563), .int (iI (n)), .int (iI (md)), .null, va_rf (ks), .null]) := by rw [hT_560.1, hk_564]; rfl
                      have fn_567 : σ_559 (ad kz) = some (oO 16 [.ref (kr kz), .ref (X.2.2.2 1), va_rf (((rlL (rlR rg lf q kz) g kz) kz).map ad), va_rf (((rlR (rlR rg lf q kz) (rlL rg q kz) g kz) kz).map ad), va_rf (((rlP (rlR rg lf q kz) (rlP rg pa q kz) g kz) kz).map ad), .int (iI (co_543 kz))]) := by exact (hT_560.2.1 kz sk).1
                      have fn_568 : σ_559 (ad q) = some (oO 16 [.ref (kr q), .ref (X.2.2.2 1), va_rf (((rlL (rlR rg lf q kz) g kz) q).map ad), va_rf (((rlR (rlR rg lf q kz) (rlL rg q kz) g kz) q).map ad), .ref (ad kz), .int (iI (co_543 q))]) := by rw [(hT_560.2.1 q sq).1, i4]; rfl
                      have fn_569 : σ_559 (ad g) = some (oO 16 [.ref (kr g), .ref (X.2.2.2 1), va_rf (((rlL (rlR rg lf q kz) g kz) g).map ad), va_rf (((rlR (rlR rg lf q kz) (rlL rg q kz) g kz) g).map ad), va_rf (((rlP (rlR rg lf q kz) (rlP rg pa q kz) g kz) g).map ad), .int (iI (co_543 g))]) := by exact (hT_560.2.1 g sg).1
                      refine lv_goto (tgt := 5) C.1 C.2.1 dJ21_fixAfterInsertion_255 (by decide) ?_
                      refine lv_aload_n C.1 C.2.1 dJ21_fixAfterInsertion_5 rfl (lv_at hl 0 rfl) ?_
                      refine lv_ifnull C.1 C.2.1 dJ21_fixAfterInsertion_6 ?_
                      refine lv_aload_n C.1 C.2.1 dJ21_fixAfterInsertion_9 rfl (lv_at hl 0 rfl) ?_
                      refine lv_aload_n C.1 C.2.1 dJ21_fixAfterInsertion_10 rfl (lv_at hl 2 rfl) ?_
                      refine gf_J21_101_13 C hS fT_566 rfl dJ21_fixAfterInsertion_11 ?_
                      refine lv_acmp_eq (tgt := 258) (rx := (some (ad q))) (ry := (some (ad kr__563))) C.1 C.2.1 dJ21_fixAfterInsertion_14 (by decide) (fun hc_570 => ?_) (fun hc_570 => ?_)
                      · skip
                        have fT_571 : σ_559 T = some (oO 13 [.null, .null, .null, .ref (ad kr__563), .int (iI (n)), .int (iI (md)), .null, va_rf (ks), .null]) := by rw [hT_560.1, hk_564]; rfl
                        have fn_572 : σ_559 (ad kr__563) = some (oO 16 [.ref (kr kr__563), .ref (X.2.2.2 1), va_rf (((rlL (rlR rg lf q kz) g kz) kr__563).map ad), va_rf (((rlR (rlR rg lf q kz) (rlL rg q kz) g kz) kr__563).map ad), va_rf (((rlP (rlR rg lf q kz) (rlP rg pa q kz) g kz) kr__563).map ad), .int (iI (co_543 kr__563))]) := by exact (hT_560.2.1 kr__563 sk_565).1
                        refine lv_aload_n C.1 C.2.1 dJ21_fixAfterInsertion_258 rfl (lv_at hl 2 rfl) ?_
                        refine gf_J21_101_13 C hS fT_571 rfl dJ21_fixAfterInsertion_259 ?_
                        refine ti_const C.1 C.2.1 dJ21_fixAfterInsertion_262 ?_
                        refine gp_J21_290_16 C hS fn_572 (by decide) (by decide) (Nat.le_of_ble_eq_true rfl) dJ21_fixAfterInsertion_263 (fun H locs hS => ?_)
                        obtain ⟨σ_573, eσ_573⟩ : ∃ z, z = va_up σ_559 (ad kr__563) (some (oO 16 [.ref (kr kr__563), .ref (X.2.2.2 1), va_rf (((rlL (rlR rg lf q kz) g kz) kr__563).map ad), va_rf (((rlR (rlR rg lf q kz) (rlL rg q kz) g kz) kr__563).map ad), va_rf (((rlP (rlR rg lf q kz) (rlP rg pa q kz) g kz) kr__563).map ad), .int (iI (1))])) := ⟨_, rfl⟩
                        have hS : tl_S X s σ_573 H locs := by rw [eσ_573]; exact hS
                        have he_574 := up_kp eσ_573 (tl_ne fT_571 fn_572 (by decide)) fT_571
                        have he_575 : σ_573 (ad kr__563) = some (oO 16 [.ref (kr kr__563), .ref (X.2.2.2 1), va_rf (((rlL (rlR rg lf q kz) g kz) kr__563).map ad), va_rf (((rlR (rlR rg lf q kz) (rlL rg q kz) g kz) kr__563).map ad), va_rf (((rlP (rlR rg lf q kz) (rlP rg pa q kz) g kz) kr__563).map ad), .int (iI (1))]) := by rw [eσ_573]; exact up_s
                        exact r_v C hr hlk hS ⟨(rlT (rlT rt q kz) g kz), (rlL (rlR rg lf q kz) g kz), (rlR (rlR rg lf q kz) (rlL rg q kz) g kz), (rlP (rlR rg lf q kz) (rlP rg pa q kz) g kz), (fup (fup lo q kz) kz ((fup lo q kz) g)), (fup (fup hi kz (hi q)) g kz), fup co_543 kr__563 1, TM.color hT_560 sk_565 (Or.inr rfl) eσ_573, hB_562, TF.up hF_561 (hT_560.2.1 kr__563 sk_565).1 (Or.inr rfl) eσ_573 hS.fix, (fun k h => by rw [hk_564] at h; cases h; exact fup_s)⟩ dJ21_fixAfterInsertion_266
                      · skip
                        refine lv_aload_n C.1 C.2.1 dJ21_fixAfterInsertion_17 rfl (lv_at hl 0 rfl) ?_
                        refine gf_J21_124_16 C hS fn_568 rfl dJ21_fixAfterInsertion_18 ?_
                        refine gf_J21_290_16 C hS fn_567 rfl dJ21_fixAfterInsertion_21 ?_
                        refine ti_if_ne (tgt := 258) C.1 C.2.1 dJ21_fixAfterInsertion_24 (by decide) ⟨by omega, by omega⟩ (fun hc_576 => ?_) (fun hc_576 => ?_)
                        · skip
                          have fT_577 : σ_559 T = some (oO 13 [.null, .null, .null, .ref (ad kr__563), .int (iI (n)), .int (iI (md)), .null, va_rf (ks), .null]) := by rw [hT_560.1, hk_564]; rfl
                          have fn_578 : σ_559 (ad kr__563) = some (oO 16 [.ref (kr kr__563), .ref (X.2.2.2 1), va_rf (((rlL (rlR rg lf q kz) g kz) kr__563).map ad), va_rf (((rlR (rlR rg lf q kz) (rlL rg q kz) g kz) kr__563).map ad), va_rf (((rlP (rlR rg lf q kz) (rlP rg pa q kz) g kz) kr__563).map ad), .int (iI (co_543 kr__563))]) := by exact (hT_560.2.1 kr__563 sk_565).1
                          refine lv_aload_n C.1 C.2.1 dJ21_fixAfterInsertion_258 rfl (lv_at hl 2 rfl) ?_
                          refine gf_J21_101_13 C hS fT_577 rfl dJ21_fixAfterInsertion_259 ?_
                          refine ti_const C.1 C.2.1 dJ21_fixAfterInsertion_262 ?_
                          refine gp_J21_290_16 C hS fn_578 (by decide) (by decide) (Nat.le_of_ble_eq_true rfl) dJ21_fixAfterInsertion_263 (fun H locs hS => ?_)
                          obtain ⟨σ_579, eσ_579⟩ : ∃ z, z = va_up σ_559 (ad kr__563) (some (oO 16 [.ref (kr kr__563), .ref (X.2.2.2 1), va_rf (((rlL (rlR rg lf q kz) g kz) kr__563).map ad), va_rf (((rlR (rlR rg lf q kz) (rlL rg q kz) g kz) kr__563).map ad), va_rf (((rlP (rlR rg lf q kz) (rlP rg pa q kz) g kz) kr__563).map ad), .int (iI (1))])) := ⟨_, rfl⟩
                          have hS : tl_S X s σ_579 H locs := by rw [eσ_579]; exact hS
                          have he_580 := up_kp eσ_579 (tl_ne fT_577 fn_578 (by decide)) fT_577
                          have he_581 : σ_579 (ad kr__563) = some (oO 16 [.ref (kr kr__563), .ref (X.2.2.2 1), va_rf (((rlL (rlR rg lf q kz) g kz) kr__563).map ad), va_rf (((rlR (rlR rg lf q kz) (rlL rg q kz) g kz) kr__563).map ad), va_rf (((rlP (rlR rg lf q kz) (rlP rg pa q kz) g kz) kr__563).map ad), .int (iI (1))]) := by rw [eσ_579]; exact up_s
                          exact r_v C hr hlk hS ⟨(rlT (rlT rt q kz) g kz), (rlL (rlR rg lf q kz) g kz), (rlR (rlR rg lf q kz) (rlL rg q kz) g kz), (rlP (rlR rg lf q kz) (rlP rg pa q kz) g kz), (fup (fup lo q kz) kz ((fup lo q kz) g)), (fup (fup hi kz (hi q)) g kz), fup co_543 kr__563 1, TM.color hT_560 sk_565 (Or.inr rfl) eσ_579, hB_562, TF.up hF_561 (hT_560.2.1 kr__563 sk_565).1 (Or.inr rfl) eσ_579 hS.fix, (fun k h => by rw [hk_564] at h; cases h; exact fup_s)⟩ dJ21_fixAfterInsertion_266
                        · skip
                          exfalso; omega
                  · skip
                    have hou : rg q = some kz := cq.resolve_left hin
                    obtain ⟨-, -, ei1, ei2⟩ := (hB.2.2.2.2.1 q sq).1 kz hou
                    have o1 := fx_out (C := lf) (pa := pa) (q := q) (g := g) (k := kz) (by omega) (by omega) hin hpq
                    have fT_582 : σc T = some (oO 13 [.null, .null, .null, .ref (ad k0), .int (iI (n)), .int (iI (md)), .null, va_rf (ks), .null]) := by rw [hT1.1, hk0]; rfl
                    have fn_583 : σc (ad kz) = some (oO 16 [.ref (kr kz), .ref (X.2.2.2 1), va_rf ((lf kz).map ad), va_rf ((rg kz).map ad), .ref (ad q), .int (iI (co1 kz))]) := by rw [(hT1.2.1 kz sk).1, hpq]; rfl
                    have fn_584 : σc (ad q) = some (oO 16 [.ref (kr q), .ref (X.2.2.2 1), va_rf ((lf q).map ad), va_rf ((rg q).map ad), .ref (ad g), .int (iI (co1 q))]) := by rw [(hT1.2.1 q sq).1, hpg]; rfl
                    have fn_585 : σc (ad g) = some (oO 16 [.ref (kr g), .ref (X.2.2.2 1), va_rf ((lf g).map ad), .ref (ad q), va_rf ((pa g).map ad), .int (iI (co1 g))]) := by rw [(hT1.2.1 g sg).1, hgq]; rfl
                    refine lv_aload_n C.1 C.2.1 dJ21_fixAfterInsertion_204 rfl (lv_at hl 2 rfl) ?_
                    refine lv_aload_n C.1 C.2.1 dJ21_fixAfterInsertion_205 rfl (lv_at hl 2 rfl) ?_
                    refine tl_cq (t_S (n := 1) C hml hS (m_parentOf_r l X σc (ad kz) (kr kz) (X.2.2.2 1) ((lf kz).map ad) ((rg kz).map ad) (some (ad q)) (co1 kz) fn_583) q775 q776 q74 q777 (by decide +kernel) rfl hl.1 rfl (Nat.le_of_ble_eq_true rfl) dJ21_fixAfterInsertion_206 ⟨Nat.le_of_ble_eq_true rfl, Nat.le_of_ble_eq_true rfl⟩ ⟨Nat.le_refl _, Nat.le_refl _⟩) hS (fun r_586 σ_588 H locs hP_587 hS => ?_)
                    obtain ⟨rfl, rfl⟩ := hP_587
                    refine tl_cq (t_S (n := 1) C hml hS (m_leftOf_r l X σc (ad q) (kr q) (X.2.2.2 1) ((lf q).map ad) ((rg q).map ad) (some (ad g)) (co1 q) fn_584) q778 q779 q74 q780 (by decide +kernel) rfl hl.1 rfl (Nat.le_of_ble_eq_true rfl) dJ21_fixAfterInsertion_209 ⟨Nat.le_of_ble_eq_true rfl, Nat.le_of_ble_eq_true rfl⟩ ⟨Nat.le_refl _, Nat.le_refl _⟩) hS (fun r_589 σ_591 H locs hP_590 hS => ?_)
                    obtain ⟨rfl, rfl⟩ := hP_590
                    refine lv_acmp_ne (tgt := 225) (rx := (some (ad kz))) (ry := ((lf q).map ad)) C.1 C.2.1 dJ21_fixAfterInsertion_212 (by decide) (fun hc_592 => ?_) (fun hc_592 => ?_)
                    · skip
                      refine lv_aload_n C.1 C.2.1 dJ21_fixAfterInsertion_225 rfl (lv_at hl 2 rfl) ?_
                      refine tl_cq (t_S (n := 1) C hml hS (m_parentOf_r l X σc (ad kz) (kr kz) (X.2.2.2 1) ((lf kz).map ad) ((rg kz).map ad) (some (ad q)) (co1 kz) fn_583) q775 q776 q74 q777 (by decide +kernel) rfl hl.1 rfl (Nat.le_of_ble_eq_true rfl) dJ21_fixAfterInsertion_226 ⟨Nat.le_of_ble_eq_true rfl, Nat.le_of_ble_eq_true rfl⟩ ⟨Nat.le_refl _, Nat.le_refl _⟩) hS (fun r_593 σ_595 H locs hP_594 hS => ?_)
                      obtain ⟨rfl, rfl⟩ := hP_594
                      refine ti_const C.1 C.2.1 dJ21_fixAfterInsertion_229 ?_
                      refine tl_cv (t_S (n := 2) C hml hS (m_setColor l X σc (ad q) (kr q) (X.2.2.2 1) ((lf q).map ad) ((rg q).map ad) ((pa q).map ad) (co1 q) (hT1.2.1 q sq).1 1 (by decide)) q787 q788 q74 q789 (by decide +kernel) rfl hl.1 rfl (Nat.le_of_ble_eq_true rfl) dJ21_fixAfterInsertion_230 ⟨Nat.le_of_ble_eq_true rfl, Nat.le_of_ble_eq_true rfl⟩ ⟨Nat.le_refl _, Nat.le_refl _⟩) hS (fun σ_598 H locs hP_597 hS => ?_)
                      have hF_601 := TF.up hF1 (hT1.2.1 q sq).1 (Or.inr rfl) hP_597 hS.fix
                      have hT_599 := TM.color hT1 sq (c2 := 1) (Or.inr rfl) hP_597
                      obtain ⟨co_600, eco_600⟩ : ∃ z, z = fup co1 q 1 := ⟨_, rfl⟩
                      rw [← eco_600] at hT_599
                      have hcol_602 : co_600 q = 1 := by rw [eco_600, fup_s]
                      have fT_603 : σ_598 T = some (oO 13 [.null, .null, .null, .ref (ad k0), .int (iI (n)), .int (iI (md)), .null, va_rf (ks), .null]) := by rw [hT_599.1, hk0]; rfl
                      have fn_604 : σ_598 (ad kz) = some (oO 16 [.ref (kr kz), .ref (X.2.2.2 1), va_rf ((lf kz).map ad), va_rf ((rg kz).map ad), .ref (ad q), .int (iI (co_600 kz))]) := by rw [(hT_599.2.1 kz sk).1, hpq]; rfl
                      have fn_605 : σ_598 (ad q) = some (oO 16 [.ref (kr q), .ref (X.2.2.2 1), va_rf ((lf q).map ad), va_rf ((rg q).map ad), .ref (ad g), .int (iI (co_600 q))]) := by rw [(hT_599.2.1 q sq).1, hpg]; rfl
                      have fn_606 : σ_598 (ad g) = some (oO 16 [.ref (kr g), .ref (X.2.2.2 1), va_rf ((lf g).map ad), .ref (ad q), va_rf ((pa g).map ad), .int (iI (co_600 g))]) := by rw [(hT_599.2.1 g sg).1, hgq]; rfl
                      refine lv_aload_n C.1 C.2.1 dJ21_fixAfterInsertion_233 rfl (lv_at hl 2 rfl) ?_
                      refine tl_cq (t_S (n := 1) C hml hS (m_parentOf_r l X σ_598 (ad kz) (kr kz) (X.2.2.2 1) ((lf kz).map ad) ((rg kz).map ad) (some (ad q)) (co_600 kz) fn_604) q775 q776 q74 q777 (by decide +kernel) rfl hl.1 rfl (Nat.le_of_ble_eq_true rfl) dJ21_fixAfterInsertion_234 ⟨Nat.le_of_ble_eq_true rfl, Nat.le_of_ble_eq_true rfl⟩ ⟨Nat.le_refl _, Nat.le_refl _⟩) hS (fun r_607 σ_609 H locs hP_608 hS => ?_)
                      obtain ⟨rfl, rfl⟩ := hP_608
                      refine tl_cq (t_S (n := 1) C hml hS (m_parentOf_r l X σ_598 (ad q) (kr q) (X.2.2.2 1) ((lf q).map ad) ((rg q).map ad) (some (ad g)) (co_600 q) fn_605) q775 q776 q74 q777 (by decide +kernel) rfl hl.1 rfl (Nat.le_of_ble_eq_true rfl) dJ21_fixAfterInsertion_237 ⟨Nat.le_of_ble_eq_true rfl, Nat.le_of_ble_eq_true rfl⟩ ⟨Nat.le_refl _, Nat.le_refl _⟩) hS (fun r_610 σ_612 H locs hP_611 hS => ?_)
                      obtain ⟨rfl, rfl⟩ := hP_611
                      refine ti_const C.1 C.2.1 dJ21_fixAfterInsertion_240 ?_
                      refine tl_cv (t_S (n := 2) C hml hS (m_setColor l X σ_598 (ad g) (kr g) (X.2.2.2 1) ((lf g).map ad) ((rg g).map ad) ((pa g).map ad) (co_600 g) (hT_599.2.1 g sg).1 0 (by decide)) q787 q788 q74 q789 (by decide +kernel) rfl hl.1 rfl (Nat.le_of_ble_eq_true rfl) dJ21_fixAfterInsertion_241 ⟨Nat.le_of_ble_eq_true rfl, Nat.le_of_ble_eq_true rfl⟩ ⟨Nat.le_refl _, Nat.le_refl _⟩) hS (fun σ_615 H locs hP_614 hS => ?_)
                      have hF_618 := TF.up hF_601 (hT_599.2.1 g sg).1 (Or.inr rfl) hP_614 hS.fix
                      have hT_616 := TM.color hT_599 sg (c2 := 0) (Or.inl rfl) hP_614
                      obtain ⟨co_617, eco_617⟩ : ∃ z, z = fup co_600 g 0 := ⟨_, rfl⟩
                      rw [← eco_617] at hT_616
                      have hcol_619 : co_617 q = 1 := by rw [eco_617, fup_n (by omega)]; exact hcol_602
                      have hcol_620 : co_617 g = 0 := by rw [eco_617, fup_s]
                      have fT_621 : σ_615 T = some (oO 13 [.null, .null, .null, .ref (ad k0), .int (iI (n)), .int (iI (md)), .null, va_rf (ks), .null]) := by rw [hT_616.1, hk0]; rfl
                      have fn_622 : σ_615 (ad kz) = some (oO 16 [.ref (kr kz), .ref (X.2.2.2 1), va_rf ((lf kz).map ad), va_rf ((rg kz).map ad), .ref (ad q), .int (iI (co_617 kz))]) := by rw [(hT_616.2.1 kz sk).1, hpq]; rfl
                      have fn_623 : σ_615 (ad q) = some (oO 16 [.ref (kr q), .ref (X.2.2.2 1), va_rf ((lf q).map ad), va_rf ((rg q).map ad), .ref (ad g), .int (iI (co_617 q))]) := by rw [(hT_616.2.1 q sq).1, hpg]; rfl
                      have fn_624 : σ_615 (ad g) = some (oO 16 [.ref (kr g), .ref (X.2.2.2 1), va_rf ((lf g).map ad), .ref (ad q), va_rf ((pa g).map ad), .int (iI (co_617 g))]) := by rw [(hT_616.2.1 g sg).1, hgq]; rfl
                      refine lv_aload_n C.1 C.2.1 dJ21_fixAfterInsertion_244 rfl (lv_at hl 1 rfl) ?_
                      refine lv_aload_n C.1 C.2.1 dJ21_fixAfterInsertion_245 rfl (lv_at hl 2 rfl) ?_
                      refine tl_cq (t_S (n := 1) C hml hS (m_parentOf_r l X σ_615 (ad kz) (kr kz) (X.2.2.2 1) ((lf kz).map ad) ((rg kz).map ad) (some (ad q)) (co_617 kz) fn_622) q775 q776 q74 q777 (by decide +kernel) rfl hl.1 rfl (Nat.le_of_ble_eq_true rfl) dJ21_fixAfterInsertion_246 ⟨Nat.le_of_ble_eq_true rfl, Nat.le_of_ble_eq_true rfl⟩ ⟨Nat.le_refl _, Nat.le_refl _⟩) hS (fun r_625 σ_627 H locs hP_626 hS => ?_)
                      obtain ⟨rfl, rfl⟩ := hP_626
                      refine tl_cq (t_S (n := 1) C hml hS (m_parentOf_r l X σ_615 (ad q) (kr q) (X.2.2.2 1) ((lf q).map ad) ((rg q).map ad) (some (ad g)) (co_617 q) fn_623) q775 q776 q74 q777 (by decide +kernel) rfl hl.1 rfl (Nat.le_of_ble_eq_true rfl) dJ21_fixAfterInsertion_249 ⟨Nat.le_of_ble_eq_true rfl, Nat.le_of_ble_eq_true rfl⟩ ⟨Nat.le_refl _, Nat.le_refl _⟩) hS (fun r_628 σ_630 H locs hP_629 hS => ?_)
                      obtain ⟨rfl, rfl⟩ := hP_629
                      refine tl_cv (t_V (n := 1) (ci := 13) C hml hS (m_rotL l X σ_615 T n md ks N S rt lf rg pa lo hi co_617 ad kr hT_616 hB g q sg hgq) q790 q792 qs8 q74 q793 (by decide +kernel) fT_621 rfl rfl hl.1 rfl (Nat.le_of_ble_eq_true rfl) dJ21_fixAfterInsertion_252 ⟨Nat.le_of_ble_eq_true rfl, Nat.le_of_ble_eq_true rfl⟩ ⟨Nat.le_refl _, Nat.le_refl _⟩) hS (fun σ_633 H locs hP_632 hS => ?_)
                      obtain ⟨hT_634, hF_635⟩ := hP_632
                      have hF_635 := hF_618.tr hF_635
                      have hB_636 := hB.rotL sg hgq
                      obtain ⟨kr__637, hk_638⟩ : ∃ k, (rlT rt g q) = some k := by cases h : (rlT rt g q) with | none => exact absurd sk (hB_636.2.2.2.2.2.2.2 h kz) | some k => exact ⟨k, rfl⟩
                      have sk_639 := (hB_636.2.2.2.2.2.2.1 kr__637 hk_638).1
                      have fT_640 : σ_633 T = some (oO 13 [.null, .null, .null, .ref (ad kr__637), .int (iI (n)), .int (iI (md)), .null, va_rf (ks), .null]) := by rw [hT_634.1, hk_638]; rfl
                      have fn_641 : σ_633 (ad kz) = some (oO 16 [.ref (kr kz), .ref (X.2.2.2 1), va_rf (((rlL lf g q) kz).map ad), va_rf (((rlR lf rg g q) kz).map ad), .ref (ad q), .int (iI (co_617 kz))]) := by rw [(hT_634.2.1 kz sk).1, o1]; rfl
                      have fn_642 : σ_633 (ad q) = some (oO 16 [.ref (kr q), .ref (X.2.2.2 1), va_rf (((rlL lf g q) q).map ad), va_rf (((rlR lf rg g q) q).map ad), va_rf (((rlP lf pa g q) q).map ad), .int (iI (co_617 q))]) := by exact (hT_634.2.1 q sq).1
                      have fn_643 : σ_633 (ad g) = some (oO 16 [.ref (kr g), .ref (X.2.2.2 1), va_rf (((rlL lf g q) g).map ad), va_rf (((rlR lf rg g q) g).map ad), va_rf (((rlP lf pa g q) g).map ad), .int (iI (co_617 g))]) := by exact (hT_634.2.1 g sg).1
                      refine lv_goto (tgt := 5) C.1 C.2.1 dJ21_fixAfterInsertion_255 (by decide) ?_
                      refine lv_aload_n C.1 C.2.1 dJ21_fixAfterInsertion_5 rfl (lv_at hl 2 rfl) ?_
                      refine lv_ifnull C.1 C.2.1 dJ21_fixAfterInsertion_6 ?_
                      refine lv_aload_n C.1 C.2.1 dJ21_fixAfterInsertion_9 rfl (lv_at hl 2 rfl) ?_
                      refine lv_aload_n C.1 C.2.1 dJ21_fixAfterInsertion_10 rfl (lv_at hl 1 rfl) ?_
                      refine gf_J21_101_13 C hS fT_640 rfl dJ21_fixAfterInsertion_11 ?_
                      refine lv_acmp_eq (tgt := 258) (rx := (some (ad kz))) (ry := (some (ad kr__637))) C.1 C.2.1 dJ21_fixAfterInsertion_14 (by decide) (fun hc_644 => ?_) (fun hc_644 => ?_)
                      · skip
                        have fT_645 : σ_633 T = some (oO 13 [.null, .null, .null, .ref (ad kr__637), .int (iI (n)), .int (iI (md)), .null, va_rf (ks), .null]) := by rw [hT_634.1, hk_638]; rfl
                        have fn_646 : σ_633 (ad kr__637) = some (oO 16 [.ref (kr kr__637), .ref (X.2.2.2 1), va_rf (((rlL lf g q) kr__637).map ad), va_rf (((rlR lf rg g q) kr__637).map ad), va_rf (((rlP lf pa g q) kr__637).map ad), .int (iI (co_617 kr__637))]) := by exact (hT_634.2.1 kr__637 sk_639).1
                        refine lv_aload_n C.1 C.2.1 dJ21_fixAfterInsertion_258 rfl (lv_at hl 1 rfl) ?_
                        refine gf_J21_101_13 C hS fT_645 rfl dJ21_fixAfterInsertion_259 ?_
                        refine ti_const C.1 C.2.1 dJ21_fixAfterInsertion_262 ?_
                        refine gp_J21_290_16 C hS fn_646 (by decide) (by decide) (Nat.le_of_ble_eq_true rfl) dJ21_fixAfterInsertion_263 (fun H locs hS => ?_)
                        obtain ⟨σ_647, eσ_647⟩ : ∃ z, z = va_up σ_633 (ad kr__637) (some (oO 16 [.ref (kr kr__637), .ref (X.2.2.2 1), va_rf (((rlL lf g q) kr__637).map ad), va_rf (((rlR lf rg g q) kr__637).map ad), va_rf (((rlP lf pa g q) kr__637).map ad), .int (iI (1))])) := ⟨_, rfl⟩
                        have hS : tl_S X s σ_647 H locs := by rw [eσ_647]; exact hS
                        have he_648 := up_kp eσ_647 (tl_ne fT_645 fn_646 (by decide)) fT_645
                        have he_649 : σ_647 (ad kr__637) = some (oO 16 [.ref (kr kr__637), .ref (X.2.2.2 1), va_rf (((rlL lf g q) kr__637).map ad), va_rf (((rlR lf rg g q) kr__637).map ad), va_rf (((rlP lf pa g q) kr__637).map ad), .int (iI (1))]) := by rw [eσ_647]; exact up_s
                        exact r_v C hr hlk hS ⟨(rlT rt g q), (rlL lf g q), (rlR lf rg g q), (rlP lf pa g q), (fup lo q (lo g)), (fup hi g q), fup co_617 kr__637 1, TM.color hT_634 sk_639 (Or.inr rfl) eσ_647, hB_636, TF.up hF_635 (hT_634.2.1 kr__637 sk_639).1 (Or.inr rfl) eσ_647 hS.fix, (fun k h => by rw [hk_638] at h; cases h; exact fup_s)⟩ dJ21_fixAfterInsertion_266
                      · skip
                        refine lv_aload_n C.1 C.2.1 dJ21_fixAfterInsertion_17 rfl (lv_at hl 2 rfl) ?_
                        refine gf_J21_124_16 C hS fn_641 rfl dJ21_fixAfterInsertion_18 ?_
                        refine gf_J21_290_16 C hS fn_642 rfl dJ21_fixAfterInsertion_21 ?_
                        refine ti_if_ne (tgt := 258) C.1 C.2.1 dJ21_fixAfterInsertion_24 (by decide) ⟨by omega, by omega⟩ (fun hc_650 => ?_) (fun hc_650 => ?_)
                        · skip
                          have fT_651 : σ_633 T = some (oO 13 [.null, .null, .null, .ref (ad kr__637), .int (iI (n)), .int (iI (md)), .null, va_rf (ks), .null]) := by rw [hT_634.1, hk_638]; rfl
                          have fn_652 : σ_633 (ad kr__637) = some (oO 16 [.ref (kr kr__637), .ref (X.2.2.2 1), va_rf (((rlL lf g q) kr__637).map ad), va_rf (((rlR lf rg g q) kr__637).map ad), va_rf (((rlP lf pa g q) kr__637).map ad), .int (iI (co_617 kr__637))]) := by exact (hT_634.2.1 kr__637 sk_639).1
                          refine lv_aload_n C.1 C.2.1 dJ21_fixAfterInsertion_258 rfl (lv_at hl 1 rfl) ?_
                          refine gf_J21_101_13 C hS fT_651 rfl dJ21_fixAfterInsertion_259 ?_
                          refine ti_const C.1 C.2.1 dJ21_fixAfterInsertion_262 ?_
                          refine gp_J21_290_16 C hS fn_652 (by decide) (by decide) (Nat.le_of_ble_eq_true rfl) dJ21_fixAfterInsertion_263 (fun H locs hS => ?_)
                          obtain ⟨σ_653, eσ_653⟩ : ∃ z, z = va_up σ_633 (ad kr__637) (some (oO 16 [.ref (kr kr__637), .ref (X.2.2.2 1), va_rf (((rlL lf g q) kr__637).map ad), va_rf (((rlR lf rg g q) kr__637).map ad), va_rf (((rlP lf pa g q) kr__637).map ad), .int (iI (1))])) := ⟨_, rfl⟩
                          have hS : tl_S X s σ_653 H locs := by rw [eσ_653]; exact hS
                          have he_654 := up_kp eσ_653 (tl_ne fT_651 fn_652 (by decide)) fT_651
                          have he_655 : σ_653 (ad kr__637) = some (oO 16 [.ref (kr kr__637), .ref (X.2.2.2 1), va_rf (((rlL lf g q) kr__637).map ad), va_rf (((rlR lf rg g q) kr__637).map ad), va_rf (((rlP lf pa g q) kr__637).map ad), .int (iI (1))]) := by rw [eσ_653]; exact up_s
                          exact r_v C hr hlk hS ⟨(rlT rt g q), (rlL lf g q), (rlR lf rg g q), (rlP lf pa g q), (fup lo q (lo g)), (fup hi g q), fup co_617 kr__637 1, TM.color hT_634 sk_639 (Or.inr rfl) eσ_653, hB_636, TF.up hF_635 (hT_634.2.1 kr__637 sk_639).1 (Or.inr rfl) eσ_653 hS.fix, (fun k h => by rw [hk_638] at h; cases h; exact fup_s)⟩ dJ21_fixAfterInsertion_266
                        · skip
                          exfalso; omega
                    · skip
                      exact absurd hc_592.symm (fun z => by obtain ⟨u, u1, u2⟩ := Option.map_eq_some_iff.mp z; exact hin (by rw [u1, hT1.2.2 _ _ ((hB.2.2.2.1 q sq).1 u u1).1 sk u2]))
                · skip
                  exact absurd hc_491 (by decide)
              | some u =>
                obtain ⟨su, pu, eu1, eu2⟩ := (hB.2.2.2.1 g sg).1 u hgu
                have bu := hB.1 u su
                have u01 := (hT1.2.1 u su).2.2
                have fT_656 : σc T = some (oO 13 [.null, .null, .null, .ref (ad k0), .int (iI (n)), .int (iI (md)), .null, va_rf (ks), .null]) := by rw [hT1.1, hk0]; rfl
                have fn_657 : σc (ad kz) = some (oO 16 [.ref (kr kz), .ref (X.2.2.2 1), va_rf ((lf kz).map ad), va_rf ((rg kz).map ad), .ref (ad q), .int (iI (co1 kz))]) := by rw [(hT1.2.1 kz sk).1, hpq]; rfl
                have fn_658 : σc (ad q) = some (oO 16 [.ref (kr q), .ref (X.2.2.2 1), va_rf ((lf q).map ad), va_rf ((rg q).map ad), .ref (ad g), .int (iI (co1 q))]) := by rw [(hT1.2.1 q sq).1, hpg]; rfl
                have fn_659 : σc (ad g) = some (oO 16 [.ref (kr g), .ref (X.2.2.2 1), .ref (ad u), .ref (ad q), va_rf ((pa g).map ad), .int (iI (co1 g))]) := by rw [(hT1.2.1 g sg).1, hgu, hgq]; rfl
                have fn_660 : σc (ad u) = some (oO 16 [.ref (kr u), .ref (X.2.2.2 1), va_rf ((lf u).map ad), va_rf ((rg u).map ad), va_rf ((pa u).map ad), .int (iI (co1 u))]) := by exact (hT1.2.1 u su).1
                refine lv_aload_n C.1 C.2.1 dJ21_fixAfterInsertion_151 rfl (lv_at hl 1 rfl) ?_
                refine tl_cq (t_S (n := 1) C hml hS (m_parentOf_r l X σc (ad kz) (kr kz) (X.2.2.2 1) ((lf kz).map ad) ((rg kz).map ad) (some (ad q)) (co1 kz) fn_657) q775 q776 q74 q777 (by decide +kernel) rfl hl.1 rfl (Nat.le_of_ble_eq_true rfl) dJ21_fixAfterInsertion_152 ⟨Nat.le_of_ble_eq_true rfl, Nat.le_of_ble_eq_true rfl⟩ ⟨Nat.le_refl _, Nat.le_refl _⟩) hS (fun r_661 σ_663 H locs hP_662 hS => ?_)
                obtain ⟨rfl, rfl⟩ := hP_662
                refine tl_cq (t_S (n := 1) C hml hS (m_parentOf_r l X σc (ad q) (kr q) (X.2.2.2 1) ((lf q).map ad) ((rg q).map ad) (some (ad g)) (co1 q) fn_658) q775 q776 q74 q777 (by decide +kernel) rfl hl.1 rfl (Nat.le_of_ble_eq_true rfl) dJ21_fixAfterInsertion_155 ⟨Nat.le_of_ble_eq_true rfl, Nat.le_of_ble_eq_true rfl⟩ ⟨Nat.le_refl _, Nat.le_refl _⟩) hS (fun r_664 σ_666 H locs hP_665 hS => ?_)
                obtain ⟨rfl, rfl⟩ := hP_665
                refine tl_cq (t_S (n := 1) C hml hS (m_leftOf_r l X σc (ad g) (kr g) (X.2.2.2 1) (some (ad u)) (some (ad q)) ((pa g).map ad) (co1 g) fn_659) q778 q779 q74 q780 (by decide +kernel) rfl hl.1 rfl (Nat.le_of_ble_eq_true rfl) dJ21_fixAfterInsertion_158 ⟨Nat.le_of_ble_eq_true rfl, Nat.le_of_ble_eq_true rfl⟩ ⟨Nat.le_refl _, Nat.le_refl _⟩) hS (fun r_667 σ_669 H locs hP_668 hS => ?_)
                obtain ⟨rfl, rfl⟩ := hP_668
                refine lv_astore_n (lv' := [(2, .ref (ad u)), (0, .ref (T)), (1, .ref (ad kz))]) C.1 C.2.1 dJ21_fixAfterInsertion_161 rfl hl (by decide) rfl (fun ls hl => ?_)
                refine lv_aload_n C.1 C.2.1 dJ21_fixAfterInsertion_162 rfl (lv_at hl 0 rfl) ?_
                refine tl_ci (t_S (n := 1) C hml hS (m_colorOf_r l X σc (ad u) (kr u) (X.2.2.2 1) ((lf u).map ad) ((rg u).map ad) ((pa u).map ad) (co1 u) fn_660 (hT1.2.1 u su).2.2) q784 q785 q74 q786 (by decide +kernel) rfl hl.1 rfl (Nat.le_of_ble_eq_true rfl) dJ21_fixAfterInsertion_163 ⟨Nat.le_of_ble_eq_true rfl, Nat.le_of_ble_eq_true rfl⟩ ⟨Nat.le_refl _, Nat.le_refl _⟩) hS (fun r_670 σ_672 H locs hP_671 hS => ?_)
                obtain ⟨rfl, rfl⟩ := hP_671
                refine ti_if_ne (tgt := 204) C.1 C.2.1 dJ21_fixAfterInsertion_166 (by decide) ⟨by omega, by omega⟩ (fun hc_673 => ?_) (fun hc_673 => ?_)
                · skip
                  by_cases hin : lf q = some kz
                  · skip
                    obtain ⟨-, -, ei1, ei2⟩ := (hB.2.2.2.1 q sq).1 kz hin
                    have hCk : lf kz ≠ some q := fun z => by obtain ⟨-, u1, -, -⟩ := (hB.2.2.2.1 kz sk).1 q z; rw [hpg] at u1; have := Option.some.inj u1; omega
                    obtain ⟨i1, i2, i3, i4⟩ := fx_in (A := rg) (C := lf) (pa := pa) (q := q) (g := g) (k := kz) (by omega) (by omega) (by omega) hgq hin hpg hCk
                    have fT_674 : σc T = some (oO 13 [.null, .null, .null, .ref (ad k0), .int (iI (n)), .int (iI (md)), .null, va_rf (ks), .null]) := by rw [hT1.1, hk0]; rfl
                    have fn_675 : σc (ad kz) = some (oO 16 [.ref (kr kz), .ref (X.2.2.2 1), va_rf ((lf kz).map ad), va_rf ((rg kz).map ad), .ref (ad q), .int (iI (co1 kz))]) := by rw [(hT1.2.1 kz sk).1, hpq]; rfl
                    have fn_676 : σc (ad q) = some (oO 16 [.ref (kr q), .ref (X.2.2.2 1), .ref (ad kz), va_rf ((rg q).map ad), .ref (ad g), .int (iI (co1 q))]) := by rw [(hT1.2.1 q sq).1, hin, hpg]; rfl
                    have fn_677 : σc (ad g) = some (oO 16 [.ref (kr g), .ref (X.2.2.2 1), va_rf ((lf g).map ad), .ref (ad q), va_rf ((pa g).map ad), .int (iI (co1 g))]) := by rw [(hT1.2.1 g sg).1, hgq]; rfl
                    refine lv_aload_n C.1 C.2.1 dJ21_fixAfterInsertion_204 rfl (lv_at hl 2 rfl) ?_
                    refine lv_aload_n C.1 C.2.1 dJ21_fixAfterInsertion_205 rfl (lv_at hl 2 rfl) ?_
                    refine tl_cq (t_S (n := 1) C hml hS (m_parentOf_r l X σc (ad kz) (kr kz) (X.2.2.2 1) ((lf kz).map ad) ((rg kz).map ad) (some (ad q)) (co1 kz) fn_675) q775 q776 q74 q777 (by decide +kernel) rfl hl.1 rfl (Nat.le_of_ble_eq_true rfl) dJ21_fixAfterInsertion_206 ⟨Nat.le_of_ble_eq_true rfl, Nat.le_of_ble_eq_true rfl⟩ ⟨Nat.le_refl _, Nat.le_refl _⟩) hS (fun r_678 σ_680 H locs hP_679 hS => ?_)
                    obtain ⟨rfl, rfl⟩ := hP_679
                    refine tl_cq (t_S (n := 1) C hml hS (m_leftOf_r l X σc (ad q) (kr q) (X.2.2.2 1) (some (ad kz)) ((rg q).map ad) (some (ad g)) (co1 q) fn_676) q778 q779 q74 q780 (by decide +kernel) rfl hl.1 rfl (Nat.le_of_ble_eq_true rfl) dJ21_fixAfterInsertion_209 ⟨Nat.le_of_ble_eq_true rfl, Nat.le_of_ble_eq_true rfl⟩ ⟨Nat.le_refl _, Nat.le_refl _⟩) hS (fun r_681 σ_683 H locs hP_682 hS => ?_)
                    obtain ⟨rfl, rfl⟩ := hP_682
                    refine lv_acmp_ne (tgt := 225) (rx := (some (ad kz))) (ry := (some (ad kz))) C.1 C.2.1 dJ21_fixAfterInsertion_212 (by decide) (fun hc_684 => ?_) (fun hc_684 => ?_)
                    · skip
                      exact absurd rfl hc_684
                    · skip
                      refine lv_aload_n C.1 C.2.1 dJ21_fixAfterInsertion_215 rfl (lv_at hl 2 rfl) ?_
                      refine tl_cq (t_S (n := 1) C hml hS (m_parentOf_r l X σc (ad kz) (kr kz) (X.2.2.2 1) ((lf kz).map ad) ((rg kz).map ad) (some (ad q)) (co1 kz) fn_675) q775 q776 q74 q777 (by decide +kernel) rfl hl.1 rfl (Nat.le_of_ble_eq_true rfl) dJ21_fixAfterInsertion_216 ⟨Nat.le_of_ble_eq_true rfl, Nat.le_of_ble_eq_true rfl⟩ ⟨Nat.le_refl _, Nat.le_refl _⟩) hS (fun r_685 σ_687 H locs hP_686 hS => ?_)
                      obtain ⟨rfl, rfl⟩ := hP_686
                      refine lv_astore_n (lv' := [(1, .ref (ad q)), (2, .ref (ad u)), (0, .ref (T))]) C.1 C.2.1 dJ21_fixAfterInsertion_219 rfl hl (by decide) rfl (fun ls hl => ?_)
                      refine lv_aload_n C.1 C.2.1 dJ21_fixAfterInsertion_220 rfl (lv_at hl 2 rfl) ?_
                      refine lv_aload_n C.1 C.2.1 dJ21_fixAfterInsertion_221 rfl (lv_at hl 0 rfl) ?_
                      refine tl_cv (t_V (n := 1) (ci := 13) C hml hS (m_rotR l X σc T n md ks N S rt lf rg pa lo hi co1 ad kr hT1 hB q kz sq hin) q794 q796 qs9 q74 q797 (by decide +kernel) fT_674 rfl rfl hl.1 rfl (Nat.le_of_ble_eq_true rfl) dJ21_fixAfterInsertion_222 ⟨Nat.le_of_ble_eq_true rfl, Nat.le_of_ble_eq_true rfl⟩ ⟨Nat.le_refl _, Nat.le_refl _⟩) hS (fun σ_690 H locs hP_689 hS => ?_)
                      obtain ⟨hT_691, hF_692⟩ := hP_689
                      have hF_692 := hF1.tr hF_692
                      have hB_693 := hB.rotR sq hin
                      obtain ⟨kr__694, hk_695⟩ : ∃ k, (rlT rt q kz) = some k := by cases h : (rlT rt q kz) with | none => exact absurd sk (hB_693.2.2.2.2.2.2.2 h kz) | some k => exact ⟨k, rfl⟩
                      have sk_696 := (hB_693.2.2.2.2.2.2.1 kr__694 hk_695).1
                      have fT_697 : σ_690 T = some (oO 13 [.null, .null, .null, .ref (ad kr__694), .int (iI (n)), .int (iI (md)), .null, va_rf (ks), .null]) := by rw [hT_691.1, hk_695]; rfl
                      have fn_698 : σ_690 (ad kz) = some (oO 16 [.ref (kr kz), .ref (X.2.2.2 1), va_rf (((rlR rg lf q kz) kz).map ad), va_rf (((rlL rg q kz) kz).map ad), .ref (ad g), .int (iI (co1 kz))]) := by rw [(hT_691.2.1 kz sk).1, i2]; rfl
                      have fn_699 : σ_690 (ad q) = some (oO 16 [.ref (kr q), .ref (X.2.2.2 1), va_rf (((rlR rg lf q kz) q).map ad), va_rf (((rlL rg q kz) q).map ad), .ref (ad kz), .int (iI (co1 q))]) := by rw [(hT_691.2.1 q sq).1, i3]; rfl
                      have fn_700 : σ_690 (ad g) = some (oO 16 [.ref (kr g), .ref (X.2.2.2 1), va_rf (((rlR rg lf q kz) g).map ad), .ref (ad kz), va_rf (((rlP rg pa q kz) g).map ad), .int (iI (co1 g))]) := by rw [(hT_691.2.1 g sg).1, i1]; rfl
                      refine lv_aload_n C.1 C.2.1 dJ21_fixAfterInsertion_225 rfl (lv_at hl 0 rfl) ?_
                      refine tl_cq (t_S (n := 1) C hml hS (m_parentOf_r l X σ_690 (ad q) (kr q) (X.2.2.2 1) (((rlR rg lf q kz) q).map ad) (((rlL rg q kz) q).map ad) (some (ad kz)) (co1 q) fn_699) q775 q776 q74 q777 (by decide +kernel) rfl hl.1 rfl (Nat.le_of_ble_eq_true rfl) dJ21_fixAfterInsertion_226 ⟨Nat.le_of_ble_eq_true rfl, Nat.le_of_ble_eq_true rfl⟩ ⟨Nat.le_refl _, Nat.le_refl _⟩) hS (fun r_701 σ_703 H locs hP_702 hS => ?_)
                      obtain ⟨rfl, rfl⟩ := hP_702
                      refine ti_const C.1 C.2.1 dJ21_fixAfterInsertion_229 ?_
                      refine tl_cv (t_S (n := 2) C hml hS (m_setColor l X σ_690 (ad kz) (kr kz) (X.2.2.2 1) (((rlR rg lf q kz) kz).map ad) (((rlL rg q kz) kz).map ad) (((rlP rg pa q kz) kz).map ad) (co1 kz) (hT_691.2.1 kz sk).1 1 (by decide)) q787 q788 q74 q789 (by decide +kernel) rfl hl.1 rfl (Nat.le_of_ble_eq_true rfl) dJ21_fixAfterInsertion_230 ⟨Nat.le_of_ble_eq_true rfl, Nat.le_of_ble_eq_true rfl⟩ ⟨Nat.le_refl _, Nat.le_refl _⟩) hS (fun σ_706 H locs hP_705 hS => ?_)
                      have hF_709 := TF.up hF_692 (hT_691.2.1 kz sk).1 (Or.inr rfl) hP_705 hS.fix
                      have hT_707 := TM.color hT_691 sk (c2 := 1) (Or.inr rfl) hP_705
                      obtain ⟨co_708, eco_708⟩ : ∃ z, z = fup co1 kz 1 := ⟨_, rfl⟩
                      rw [← eco_708] at hT_707
                      have hcol_710 : co_708 kz = 1 := by rw [eco_708, fup_s]
                      have fT_711 : σ_706 T = some (oO 13 [.null, .null, .null, .ref (ad kr__694), .int (iI (n)), .int (iI (md)), .null, va_rf (ks), .null]) := by rw [hT_707.1, hk_695]; rfl
                      have fn_712 : σ_706 (ad kz) = some (oO 16 [.ref (kr kz), .ref (X.2.2.2 1), va_rf (((rlR rg lf q kz) kz).map ad), va_rf (((rlL rg q kz) kz).map ad), .ref (ad g), .int (iI (co_708 kz))]) := by rw [(hT_707.2.1 kz sk).1, i2]; rfl
                      have fn_713 : σ_706 (ad q) = some (oO 16 [.ref (kr q), .ref (X.2.2.2 1), va_rf (((rlR rg lf q kz) q).map ad), va_rf (((rlL rg q kz) q).map ad), .ref (ad kz), .int (iI (co_708 q))]) := by rw [(hT_707.2.1 q sq).1, i3]; rfl
                      have fn_714 : σ_706 (ad g) = some (oO 16 [.ref (kr g), .ref (X.2.2.2 1), va_rf (((rlR rg lf q kz) g).map ad), .ref (ad kz), va_rf (((rlP rg pa q kz) g).map ad), .int (iI (co_708 g))]) := by rw [(hT_707.2.1 g sg).1, i1]; rfl
                      refine lv_aload_n C.1 C.2.1 dJ21_fixAfterInsertion_233 rfl (lv_at hl 0 rfl) ?_
                      refine tl_cq (t_S (n := 1) C hml hS (m_parentOf_r l X σ_706 (ad q) (kr q) (X.2.2.2 1) (((rlR rg lf q kz) q).map ad) (((rlL rg q kz) q).map ad) (some (ad kz)) (co_708 q) fn_713) q775 q776 q74 q777 (by decide +kernel) rfl hl.1 rfl (Nat.le_of_ble_eq_true rfl) dJ21_fixAfterInsertion_234 ⟨Nat.le_of_ble_eq_true rfl, Nat.le_of_ble_eq_true rfl⟩ ⟨Nat.le_refl _, Nat.le_refl _⟩) hS (fun r_715 σ_717 H locs hP_716 hS => ?_)
                      obtain ⟨rfl, rfl⟩ := hP_716
                      refine tl_cq (t_S (n := 1) C hml hS (m_parentOf_r l X σ_706 (ad kz) (kr kz) (X.2.2.2 1) (((rlR rg lf q kz) kz).map ad) (((rlL rg q kz) kz).map ad) (some (ad g)) (co_708 kz) fn_712) q775 q776 q74 q777 (by decide +kernel) rfl hl.1 rfl (Nat.le_of_ble_eq_true rfl) dJ21_fixAfterInsertion_237 ⟨Nat.le_of_ble_eq_true rfl, Nat.le_of_ble_eq_true rfl⟩ ⟨Nat.le_refl _, Nat.le_refl _⟩) hS (fun r_718 σ_720 H locs hP_719 hS => ?_)
                      obtain ⟨rfl, rfl⟩ := hP_719
                      refine ti_const C.1 C.2.1 dJ21_fixAfterInsertion_240 ?_
                      refine tl_cv (t_S (n := 2) C hml hS (m_setColor l X σ_706 (ad g) (kr g) (X.2.2.2 1) (((rlR rg lf q kz) g).map ad) (((rlL rg q kz) g).map ad) (((rlP rg pa q kz) g).map ad) (co_708 g) (hT_707.2.1 g sg).1 0 (by decide)) q787 q788 q74 q789 (by decide +kernel) rfl hl.1 rfl (Nat.le_of_ble_eq_true rfl) dJ21_fixAfterInsertion_241 ⟨Nat.le_of_ble_eq_true rfl, Nat.le_of_ble_eq_true rfl⟩ ⟨Nat.le_refl _, Nat.le_refl _⟩) hS (fun σ_723 H locs hP_722 hS => ?_)
                      have hF_726 := TF.up hF_709 (hT_707.2.1 g sg).1 (Or.inr rfl) hP_722 hS.fix
                      have hT_724 := TM.color hT_707 sg (c2 := 0) (Or.inl rfl) hP_722
                      obtain ⟨co_725, eco_725⟩ : ∃ z, z = fup co_708 g 0 := ⟨_, rfl⟩
                      rw [← eco_725] at hT_724
                      have hcol_727 : co_725 kz = 1 := by rw [eco_725, fup_n (by omega)]; exact hcol_710
                      have hcol_728 : co_725 g = 0 := by rw [eco_725, fup_s]
                      have fT_729 : σ_723 T = some (oO 13 [.null, .null, .null, .ref (ad kr__694), .int (iI (n)), .int (iI (md)), .null, va_rf (ks), .null]) := by rw [hT_724.1, hk_695]; rfl
                      have fn_730 : σ_723 (ad kz) = some (oO 16 [.ref (kr kz), .ref (X.2.2.2 1), va_rf (((rlR rg lf q kz) kz).map ad), va_rf (((rlL rg q kz) kz).map ad), .ref (ad g), .int (iI (co_725 kz))]) := by rw [(hT_724.2.1 kz sk).1, i2]; rfl
                      have fn_731 : σ_723 (ad q) = some (oO 16 [.ref (kr q), .ref (X.2.2.2 1), va_rf (((rlR rg lf q kz) q).map ad), va_rf (((rlL rg q kz) q).map ad), .ref (ad kz), .int (iI (co_725 q))]) := by rw [(hT_724.2.1 q sq).1, i3]; rfl
                      have fn_732 : σ_723 (ad g) = some (oO 16 [.ref (kr g), .ref (X.2.2.2 1), va_rf (((rlR rg lf q kz) g).map ad), .ref (ad kz), va_rf (((rlP rg pa q kz) g).map ad), .int (iI (co_725 g))]) := by rw [(hT_724.2.1 g sg).1, i1]; rfl
                      refine lv_aload_n C.1 C.2.1 dJ21_fixAfterInsertion_244 rfl (lv_at hl 2 rfl) ?_
                      refine lv_aload_n C.1 C.2.1 dJ21_fixAfterInsertion_245 rfl (lv_at hl 0 rfl) ?_
                      refine tl_cq (t_S (n := 1) C hml hS (m_parentOf_r l X σ_723 (ad q) (kr q) (X.2.2.2 1) (((rlR rg lf q kz) q).map ad) (((rlL rg q kz) q).map ad) (some (ad kz)) (co_725 q) fn_731) q775 q776 q74 q777 (by decide +kernel) rfl hl.1 rfl (Nat.le_of_ble_eq_true rfl) dJ21_fixAfterInsertion_246 ⟨Nat.le_of_ble_eq_true rfl, Nat.le_of_ble_eq_true rfl⟩ ⟨Nat.le_refl _, Nat.le_refl _⟩) hS (fun r_733 σ_735 H locs hP_734 hS => ?_)
                      obtain ⟨rfl, rfl⟩ := hP_734
                      refine tl_cq (t_S (n := 1) C hml hS (m_parentOf_r l X σ_723 (ad kz) (kr kz) (X.2.2.2 1) (((rlR rg lf q kz) kz).map ad) (((rlL rg q kz) kz).map ad) (some (ad g)) (co_725 kz) fn_730) q775 q776 q74 q777 (by decide +kernel) rfl hl.1 rfl (Nat.le_of_ble_eq_true rfl) dJ21_fixAfterInsertion_249 ⟨Nat.le_of_ble_eq_true rfl, Nat.le_of_ble_eq_true rfl⟩ ⟨Nat.le_refl _, Nat.le_refl _⟩) hS (fun r_736 σ_738 H locs hP_737 hS => ?_)
                      obtain ⟨rfl, rfl⟩ := hP_737
                      refine tl_cv (t_V (n := 1) (ci := 13) C hml hS (m_rotL l X σ_723 T n md ks N S (rlT rt q kz) (rlR rg lf q kz) (rlL rg q kz) (rlP rg pa q kz) (fup lo q kz) (fup hi kz (hi q)) co_725 ad kr hT_724 hB_693 g kz sg i1) q790 q792 qs8 q74 q793 (by decide +kernel) fT_729 rfl rfl hl.1 rfl (Nat.le_of_ble_eq_true rfl) dJ21_fixAfterInsertion_252 ⟨Nat.le_of_ble_eq_true rfl, Nat.le_of_ble_eq_true rfl⟩ ⟨Nat.le_refl _, Nat.le_refl _⟩) hS (fun σ_741 H locs hP_740 hS => ?_)
                      obtain ⟨hT_742, hF_743⟩ := hP_740
                      have hF_743 := hF_726.tr hF_743
                      have hB_744 := hB_693.rotL sg i1
                      obtain ⟨kr__745, hk_746⟩ : ∃ k, (rlT (rlT rt q kz) g kz) = some k := by cases h : (rlT (rlT rt q kz) g kz) with | none => exact absurd sk (hB_744.2.2.2.2.2.2.2 h kz) | some k => exact ⟨k, rfl⟩
                      have sk_747 := (hB_744.2.2.2.2.2.2.1 kr__745 hk_746).1
                      have fT_748 : σ_741 T = some (oO 13 [.null, .null, .null, .ref (ad kr__745), .int (iI (n)), .int (iI (md)), .null, va_rf (ks), .null]) := by rw [hT_742.1, hk_746]; rfl
                      have fn_749 : σ_741 (ad kz) = some (oO 16 [.ref (kr kz), .ref (X.2.2.2 1), va_rf (((rlL (rlR rg lf q kz) g kz) kz).map ad), va_rf (((rlR (rlR rg lf q kz) (rlL rg q kz) g kz) kz).map ad), va_rf (((rlP (rlR rg lf q kz) (rlP rg pa q kz) g kz) kz).map ad), .int (iI (co_725 kz))]) := by exact (hT_742.2.1 kz sk).1
                      have fn_750 : σ_741 (ad q) = some (oO 16 [.ref (kr q), .ref (X.2.2.2 1), va_rf (((rlL (rlR rg lf q kz) g kz) q).map ad), va_rf (((rlR (rlR rg lf q kz) (rlL rg q kz) g kz) q).map ad), .ref (ad kz), .int (iI (co_725 q))]) := by rw [(hT_742.2.1 q sq).1, i4]; rfl
                      have fn_751 : σ_741 (ad g) = some (oO 16 [.ref (kr g), .ref (X.2.2.2 1), va_rf (((rlL (rlR rg lf q kz) g kz) g).map ad), va_rf (((rlR (rlR rg lf q kz) (rlL rg q kz) g kz) g).map ad), va_rf (((rlP (rlR rg lf q kz) (rlP rg pa q kz) g kz) g).map ad), .int (iI (co_725 g))]) := by exact (hT_742.2.1 g sg).1
                      refine lv_goto (tgt := 5) C.1 C.2.1 dJ21_fixAfterInsertion_255 (by decide) ?_
                      refine lv_aload_n C.1 C.2.1 dJ21_fixAfterInsertion_5 rfl (lv_at hl 0 rfl) ?_
                      refine lv_ifnull C.1 C.2.1 dJ21_fixAfterInsertion_6 ?_
                      refine lv_aload_n C.1 C.2.1 dJ21_fixAfterInsertion_9 rfl (lv_at hl 0 rfl) ?_
                      refine lv_aload_n C.1 C.2.1 dJ21_fixAfterInsertion_10 rfl (lv_at hl 2 rfl) ?_
                      refine gf_J21_101_13 C hS fT_748 rfl dJ21_fixAfterInsertion_11 ?_
                      refine lv_acmp_eq (tgt := 258) (rx := (some (ad q))) (ry := (some (ad kr__745))) C.1 C.2.1 dJ21_fixAfterInsertion_14 (by decide) (fun hc_752 => ?_) (fun hc_752 => ?_)
                      · skip
                        have fT_753 : σ_741 T = some (oO 13 [.null, .null, .null, .ref (ad kr__745), .int (iI (n)), .int (iI (md)), .null, va_rf (ks), .null]) := by rw [hT_742.1, hk_746]; rfl
                        have fn_754 : σ_741 (ad kr__745) = some (oO 16 [.ref (kr kr__745), .ref (X.2.2.2 1), va_rf (((rlL (rlR rg lf q kz) g kz) kr__745).map ad), va_rf (((rlR (rlR rg lf q kz) (rlL rg q kz) g kz) kr__745).map ad), va_rf (((rlP (rlR rg lf q kz) (rlP rg pa q kz) g kz) kr__745).map ad), .int (iI (co_725 kr__745))]) := by exact (hT_742.2.1 kr__745 sk_747).1
                        refine lv_aload_n C.1 C.2.1 dJ21_fixAfterInsertion_258 rfl (lv_at hl 2 rfl) ?_
                        refine gf_J21_101_13 C hS fT_753 rfl dJ21_fixAfterInsertion_259 ?_
                        refine ti_const C.1 C.2.1 dJ21_fixAfterInsertion_262 ?_
                        refine gp_J21_290_16 C hS fn_754 (by decide) (by decide) (Nat.le_of_ble_eq_true rfl) dJ21_fixAfterInsertion_263 (fun H locs hS => ?_)
                        obtain ⟨σ_755, eσ_755⟩ : ∃ z, z = va_up σ_741 (ad kr__745) (some (oO 16 [.ref (kr kr__745), .ref (X.2.2.2 1), va_rf (((rlL (rlR rg lf q kz) g kz) kr__745).map ad), va_rf (((rlR (rlR rg lf q kz) (rlL rg q kz) g kz) kr__745).map ad), va_rf (((rlP (rlR rg lf q kz) (rlP rg pa q kz) g kz) kr__745).map ad), .int (iI (1))])) := ⟨_, rfl⟩
                        have hS : tl_S X s σ_755 H locs := by rw [eσ_755]; exact hS
                        have he_756 := up_kp eσ_755 (tl_ne fT_753 fn_754 (by decide)) fT_753
                        have he_757 : σ_755 (ad kr__745) = some (oO 16 [.ref (kr kr__745), .ref (X.2.2.2 1), va_rf (((rlL (rlR rg lf q kz) g kz) kr__745).map ad), va_rf (((rlR (rlR rg lf q kz) (rlL rg q kz) g kz) kr__745).map ad), va_rf (((rlP (rlR rg lf q kz) (rlP rg pa q kz) g kz) kr__745).map ad), .int (iI (1))]) := by rw [eσ_755]; exact up_s
                        exact r_v C hr hlk hS ⟨(rlT (rlT rt q kz) g kz), (rlL (rlR rg lf q kz) g kz), (rlR (rlR rg lf q kz) (rlL rg q kz) g kz), (rlP (rlR rg lf q kz) (rlP rg pa q kz) g kz), (fup (fup lo q kz) kz ((fup lo q kz) g)), (fup (fup hi kz (hi q)) g kz), fup co_725 kr__745 1, TM.color hT_742 sk_747 (Or.inr rfl) eσ_755, hB_744, TF.up hF_743 (hT_742.2.1 kr__745 sk_747).1 (Or.inr rfl) eσ_755 hS.fix, (fun k h => by rw [hk_746] at h; cases h; exact fup_s)⟩ dJ21_fixAfterInsertion_266
                      · skip
                        refine lv_aload_n C.1 C.2.1 dJ21_fixAfterInsertion_17 rfl (lv_at hl 0 rfl) ?_
                        refine gf_J21_124_16 C hS fn_750 rfl dJ21_fixAfterInsertion_18 ?_
                        refine gf_J21_290_16 C hS fn_749 rfl dJ21_fixAfterInsertion_21 ?_
                        refine ti_if_ne (tgt := 258) C.1 C.2.1 dJ21_fixAfterInsertion_24 (by decide) ⟨by omega, by omega⟩ (fun hc_758 => ?_) (fun hc_758 => ?_)
                        · skip
                          have fT_759 : σ_741 T = some (oO 13 [.null, .null, .null, .ref (ad kr__745), .int (iI (n)), .int (iI (md)), .null, va_rf (ks), .null]) := by rw [hT_742.1, hk_746]; rfl
                          have fn_760 : σ_741 (ad kr__745) = some (oO 16 [.ref (kr kr__745), .ref (X.2.2.2 1), va_rf (((rlL (rlR rg lf q kz) g kz) kr__745).map ad), va_rf (((rlR (rlR rg lf q kz) (rlL rg q kz) g kz) kr__745).map ad), va_rf (((rlP (rlR rg lf q kz) (rlP rg pa q kz) g kz) kr__745).map ad), .int (iI (co_725 kr__745))]) := by exact (hT_742.2.1 kr__745 sk_747).1
                          refine lv_aload_n C.1 C.2.1 dJ21_fixAfterInsertion_258 rfl (lv_at hl 2 rfl) ?_
                          refine gf_J21_101_13 C hS fT_759 rfl dJ21_fixAfterInsertion_259 ?_
                          refine ti_const C.1 C.2.1 dJ21_fixAfterInsertion_262 ?_
                          refine gp_J21_290_16 C hS fn_760 (by decide) (by decide) (Nat.le_of_ble_eq_true rfl) dJ21_fixAfterInsertion_263 (fun H locs hS => ?_)
                          obtain ⟨σ_761, eσ_761⟩ : ∃ z, z = va_up σ_741 (ad kr__745) (some (oO 16 [.ref (kr kr__745), .ref (X.2.2.2 1), va_rf (((rlL (rlR rg lf q kz) g kz) kr__745).map ad), va_rf (((rlR (rlR rg lf q kz) (rlL rg q kz) g kz) kr__745).map ad), va_rf (((rlP (rlR rg lf q kz) (rlP rg pa q kz) g kz) kr__745).map ad), .int (iI (1))])) := ⟨_, rfl⟩
                          have hS : tl_S X s σ_761 H locs := by rw [eσ_761]; exact hS
                          have he_762 := up_kp eσ_761 (tl_ne fT_759 fn_760 (by decide)) fT_759
                          have he_763 : σ_761 (ad kr__745) = some (oO 16 [.ref (kr kr__745), .ref (X.2.2.2 1), va_rf (((rlL (rlR rg lf q kz) g kz) kr__745).map ad), va_rf (((rlR (rlR rg lf q kz) (rlL rg q kz) g kz) kr__745).map ad), va_rf (((rlP (rlR rg lf q kz) (rlP rg pa q kz) g kz) kr__745).map ad), .int (iI (1))]) := by rw [eσ_761]; exact up_s
                          exact r_v C hr hlk hS ⟨(rlT (rlT rt q kz) g kz), (rlL (rlR rg lf q kz) g kz), (rlR (rlR rg lf q kz) (rlL rg q kz) g kz), (rlP (rlR rg lf q kz) (rlP rg pa q kz) g kz), (fup (fup lo q kz) kz ((fup lo q kz) g)), (fup (fup hi kz (hi q)) g kz), fup co_725 kr__745 1, TM.color hT_742 sk_747 (Or.inr rfl) eσ_761, hB_744, TF.up hF_743 (hT_742.2.1 kr__745 sk_747).1 (Or.inr rfl) eσ_761 hS.fix, (fun k h => by rw [hk_746] at h; cases h; exact fup_s)⟩ dJ21_fixAfterInsertion_266
                        · skip
                          exfalso; omega
                  · skip
                    have hou : rg q = some kz := cq.resolve_left hin
                    obtain ⟨-, -, ei1, ei2⟩ := (hB.2.2.2.2.1 q sq).1 kz hou
                    have o1 := fx_out (C := lf) (pa := pa) (q := q) (g := g) (k := kz) (by omega) (by omega) hin hpq
                    have fT_764 : σc T = some (oO 13 [.null, .null, .null, .ref (ad k0), .int (iI (n)), .int (iI (md)), .null, va_rf (ks), .null]) := by rw [hT1.1, hk0]; rfl
                    have fn_765 : σc (ad kz) = some (oO 16 [.ref (kr kz), .ref (X.2.2.2 1), va_rf ((lf kz).map ad), va_rf ((rg kz).map ad), .ref (ad q), .int (iI (co1 kz))]) := by rw [(hT1.2.1 kz sk).1, hpq]; rfl
                    have fn_766 : σc (ad q) = some (oO 16 [.ref (kr q), .ref (X.2.2.2 1), va_rf ((lf q).map ad), va_rf ((rg q).map ad), .ref (ad g), .int (iI (co1 q))]) := by rw [(hT1.2.1 q sq).1, hpg]; rfl
                    have fn_767 : σc (ad g) = some (oO 16 [.ref (kr g), .ref (X.2.2.2 1), va_rf ((lf g).map ad), .ref (ad q), va_rf ((pa g).map ad), .int (iI (co1 g))]) := by rw [(hT1.2.1 g sg).1, hgq]; rfl
                    refine lv_aload_n C.1 C.2.1 dJ21_fixAfterInsertion_204 rfl (lv_at hl 2 rfl) ?_
                    refine lv_aload_n C.1 C.2.1 dJ21_fixAfterInsertion_205 rfl (lv_at hl 2 rfl) ?_
                    refine tl_cq (t_S (n := 1) C hml hS (m_parentOf_r l X σc (ad kz) (kr kz) (X.2.2.2 1) ((lf kz).map ad) ((rg kz).map ad) (some (ad q)) (co1 kz) fn_765) q775 q776 q74 q777 (by decide +kernel) rfl hl.1 rfl (Nat.le_of_ble_eq_true rfl) dJ21_fixAfterInsertion_206 ⟨Nat.le_of_ble_eq_true rfl, Nat.le_of_ble_eq_true rfl⟩ ⟨Nat.le_refl _, Nat.le_refl _⟩) hS (fun r_768 σ_770 H locs hP_769 hS => ?_)
                    obtain ⟨rfl, rfl⟩ := hP_769
                    refine tl_cq (t_S (n := 1) C hml hS (m_leftOf_r l X σc (ad q) (kr q) (X.2.2.2 1) ((lf q).map ad) ((rg q).map ad) (some (ad g)) (co1 q) fn_766) q778 q779 q74 q780 (by decide +kernel) rfl hl.1 rfl (Nat.le_of_ble_eq_true rfl) dJ21_fixAfterInsertion_209 ⟨Nat.le_of_ble_eq_true rfl, Nat.le_of_ble_eq_true rfl⟩ ⟨Nat.le_refl _, Nat.le_refl _⟩) hS (fun r_771 σ_773 H locs hP_772 hS => ?_)
                    obtain ⟨rfl, rfl⟩ := hP_772
                    refine lv_acmp_ne (tgt := 225) (rx := (some (ad kz))) (ry := ((lf q).map ad)) C.1 C.2.1 dJ21_fixAfterInsertion_212 (by decide) (fun hc_774 => ?_) (fun hc_774 => ?_)
                    · skip
                      refine lv_aload_n C.1 C.2.1 dJ21_fixAfterInsertion_225 rfl (lv_at hl 2 rfl) ?_
                      refine tl_cq (t_S (n := 1) C hml hS (m_parentOf_r l X σc (ad kz) (kr kz) (X.2.2.2 1) ((lf kz).map ad) ((rg kz).map ad) (some (ad q)) (co1 kz) fn_765) q775 q776 q74 q777 (by decide +kernel) rfl hl.1 rfl (Nat.le_of_ble_eq_true rfl) dJ21_fixAfterInsertion_226 ⟨Nat.le_of_ble_eq_true rfl, Nat.le_of_ble_eq_true rfl⟩ ⟨Nat.le_refl _, Nat.le_refl _⟩) hS (fun r_775 σ_777 H locs hP_776 hS => ?_)
                      obtain ⟨rfl, rfl⟩ := hP_776
                      refine ti_const C.1 C.2.1 dJ21_fixAfterInsertion_229 ?_
                      refine tl_cv (t_S (n := 2) C hml hS (m_setColor l X σc (ad q) (kr q) (X.2.2.2 1) ((lf q).map ad) ((rg q).map ad) ((pa q).map ad) (co1 q) (hT1.2.1 q sq).1 1 (by decide)) q787 q788 q74 q789 (by decide +kernel) rfl hl.1 rfl (Nat.le_of_ble_eq_true rfl) dJ21_fixAfterInsertion_230 ⟨Nat.le_of_ble_eq_true rfl, Nat.le_of_ble_eq_true rfl⟩ ⟨Nat.le_refl _, Nat.le_refl _⟩) hS (fun σ_780 H locs hP_779 hS => ?_)
                      have hF_783 := TF.up hF1 (hT1.2.1 q sq).1 (Or.inr rfl) hP_779 hS.fix
                      have hT_781 := TM.color hT1 sq (c2 := 1) (Or.inr rfl) hP_779
                      obtain ⟨co_782, eco_782⟩ : ∃ z, z = fup co1 q 1 := ⟨_, rfl⟩
                      rw [← eco_782] at hT_781
                      have hcol_784 : co_782 q = 1 := by rw [eco_782, fup_s]
                      have fT_785 : σ_780 T = some (oO 13 [.null, .null, .null, .ref (ad k0), .int (iI (n)), .int (iI (md)), .null, va_rf (ks), .null]) := by rw [hT_781.1, hk0]; rfl
                      have fn_786 : σ_780 (ad kz) = some (oO 16 [.ref (kr kz), .ref (X.2.2.2 1), va_rf ((lf kz).map ad), va_rf ((rg kz).map ad), .ref (ad q), .int (iI (co_782 kz))]) := by rw [(hT_781.2.1 kz sk).1, hpq]; rfl
                      have fn_787 : σ_780 (ad q) = some (oO 16 [.ref (kr q), .ref (X.2.2.2 1), va_rf ((lf q).map ad), va_rf ((rg q).map ad), .ref (ad g), .int (iI (co_782 q))]) := by rw [(hT_781.2.1 q sq).1, hpg]; rfl
                      have fn_788 : σ_780 (ad g) = some (oO 16 [.ref (kr g), .ref (X.2.2.2 1), va_rf ((lf g).map ad), .ref (ad q), va_rf ((pa g).map ad), .int (iI (co_782 g))]) := by rw [(hT_781.2.1 g sg).1, hgq]; rfl
                      refine lv_aload_n C.1 C.2.1 dJ21_fixAfterInsertion_233 rfl (lv_at hl 2 rfl) ?_
                      refine tl_cq (t_S (n := 1) C hml hS (m_parentOf_r l X σ_780 (ad kz) (kr kz) (X.2.2.2 1) ((lf kz).map ad) ((rg kz).map ad) (some (ad q)) (co_782 kz) fn_786) q775 q776 q74 q777 (by decide +kernel) rfl hl.1 rfl (Nat.le_of_ble_eq_true rfl) dJ21_fixAfterInsertion_234 ⟨Nat.le_of_ble_eq_true rfl, Nat.le_of_ble_eq_true rfl⟩ ⟨Nat.le_refl _, Nat.le_refl _⟩) hS (fun r_789 σ_791 H locs hP_790 hS => ?_)
                      obtain ⟨rfl, rfl⟩ := hP_790
                      refine tl_cq (t_S (n := 1) C hml hS (m_parentOf_r l X σ_780 (ad q) (kr q) (X.2.2.2 1) ((lf q).map ad) ((rg q).map ad) (some (ad g)) (co_782 q) fn_787) q775 q776 q74 q777 (by decide +kernel) rfl hl.1 rfl (Nat.le_of_ble_eq_true rfl) dJ21_fixAfterInsertion_237 ⟨Nat.le_of_ble_eq_true rfl, Nat.le_of_ble_eq_true rfl⟩ ⟨Nat.le_refl _, Nat.le_refl _⟩) hS (fun r_792 σ_794 H locs hP_793 hS => ?_)
                      obtain ⟨rfl, rfl⟩ := hP_793
                      refine ti_const C.1 C.2.1 dJ21_fixAfterInsertion_240 ?_
                      refine tl_cv (t_S (n := 2) C hml hS (m_setColor l X σ_780 (ad g) (kr g) (X.2.2.2 1) ((lf g).map ad) ((rg g).map ad) ((pa g).map ad) (co_782 g) (hT_781.2.1 g sg).1 0 (by decide)) q787 q788 q74 q789 (by decide +kernel) rfl hl.1 rfl (Nat.le_of_ble_eq_true rfl) dJ21_fixAfterInsertion_241 ⟨Nat.le_of_ble_eq_true rfl, Nat.le_of_ble_eq_true rfl⟩ ⟨Nat.le_refl _, Nat.le_refl _⟩) hS (fun σ_797 H locs hP_796 hS => ?_)
                      have hF_800 := TF.up hF_783 (hT_781.2.1 g sg).1 (Or.inr rfl) hP_796 hS.fix
                      have hT_798 := TM.color hT_781 sg (c2 := 0) (Or.inl rfl) hP_796
                      obtain ⟨co_799, eco_799⟩ : ∃ z, z = fup co_782 g 0 := ⟨_, rfl⟩
                      rw [← eco_799] at hT_798
                      have hcol_801 : co_799 q = 1 := by rw [eco_799, fup_n (by omega)]; exact hcol_784
                      have hcol_802 : co_799 g = 0 := by rw [eco_799, fup_s]
                      have fT_803 : σ_797 T = some (oO 13 [.null, .null, .null, .ref (ad k0), .int (iI (n)), .int (iI (md)), .null, va_rf (ks), .null]) := by rw [hT_798.1, hk0]; rfl
                      have fn_804 : σ_797 (ad kz) = some (oO 16 [.ref (kr kz), .ref (X.2.2.2 1), va_rf ((lf kz).map ad), va_rf ((rg kz).map ad), .ref (ad q), .int (iI (co_799 kz))]) := by rw [(hT_798.2.1 kz sk).1, hpq]; rfl
                      have fn_805 : σ_797 (ad q) = some (oO 16 [.ref (kr q), .ref (X.2.2.2 1), va_rf ((lf q).map ad), va_rf ((rg q).map ad), .ref (ad g), .int (iI (co_799 q))]) := by rw [(hT_798.2.1 q sq).1, hpg]; rfl
                      have fn_806 : σ_797 (ad g) = some (oO 16 [.ref (kr g), .ref (X.2.2.2 1), va_rf ((lf g).map ad), .ref (ad q), va_rf ((pa g).map ad), .int (iI (co_799 g))]) := by rw [(hT_798.2.1 g sg).1, hgq]; rfl
                      refine lv_aload_n C.1 C.2.1 dJ21_fixAfterInsertion_244 rfl (lv_at hl 1 rfl) ?_
                      refine lv_aload_n C.1 C.2.1 dJ21_fixAfterInsertion_245 rfl (lv_at hl 2 rfl) ?_
                      refine tl_cq (t_S (n := 1) C hml hS (m_parentOf_r l X σ_797 (ad kz) (kr kz) (X.2.2.2 1) ((lf kz).map ad) ((rg kz).map ad) (some (ad q)) (co_799 kz) fn_804) q775 q776 q74 q777 (by decide +kernel) rfl hl.1 rfl (Nat.le_of_ble_eq_true rfl) dJ21_fixAfterInsertion_246 ⟨Nat.le_of_ble_eq_true rfl, Nat.le_of_ble_eq_true rfl⟩ ⟨Nat.le_refl _, Nat.le_refl _⟩) hS (fun r_807 σ_809 H locs hP_808 hS => ?_)
                      obtain ⟨rfl, rfl⟩ := hP_808
                      refine tl_cq (t_S (n := 1) C hml hS (m_parentOf_r l X σ_797 (ad q) (kr q) (X.2.2.2 1) ((lf q).map ad) ((rg q).map ad) (some (ad g)) (co_799 q) fn_805) q775 q776 q74 q777 (by decide +kernel) rfl hl.1 rfl (Nat.le_of_ble_eq_true rfl) dJ21_fixAfterInsertion_249 ⟨Nat.le_of_ble_eq_true rfl, Nat.le_of_ble_eq_true rfl⟩ ⟨Nat.le_refl _, Nat.le_refl _⟩) hS (fun r_810 σ_812 H locs hP_811 hS => ?_)
                      obtain ⟨rfl, rfl⟩ := hP_811
                      refine tl_cv (t_V (n := 1) (ci := 13) C hml hS (m_rotL l X σ_797 T n md ks N S rt lf rg pa lo hi co_799 ad kr hT_798 hB g q sg hgq) q790 q792 qs8 q74 q793 (by decide +kernel) fT_803 rfl rfl hl.1 rfl (Nat.le_of_ble_eq_true rfl) dJ21_fixAfterInsertion_252 ⟨Nat.le_of_ble_eq_true rfl, Nat.le_of_ble_eq_true rfl⟩ ⟨Nat.le_refl _, Nat.le_refl _⟩) hS (fun σ_815 H locs hP_814 hS => ?_)
                      obtain ⟨hT_816, hF_817⟩ := hP_814
                      have hF_817 := hF_800.tr hF_817
                      have hB_818 := hB.rotL sg hgq
                      obtain ⟨kr__819, hk_820⟩ : ∃ k, (rlT rt g q) = some k := by cases h : (rlT rt g q) with | none => exact absurd sk (hB_818.2.2.2.2.2.2.2 h kz) | some k => exact ⟨k, rfl⟩
                      have sk_821 := (hB_818.2.2.2.2.2.2.1 kr__819 hk_820).1
                      have fT_822 : σ_815 T = some (oO 13 [.null, .null, .null, .ref (ad kr__819), .int (iI (n)), .int (iI (md)), .null, va_rf (ks), .null]) := by rw [hT_816.1, hk_820]; rfl
                      have fn_823 : σ_815 (ad kz) = some (oO 16 [.ref (kr kz), .ref (X.2.2.2 1), va_rf (((rlL lf g q) kz).map ad), va_rf (((rlR lf rg g q) kz).map ad), .ref (ad q), .int (iI (co_799 kz))]) := by rw [(hT_816.2.1 kz sk).1, o1]; rfl
                      have fn_824 : σ_815 (ad q) = some (oO 16 [.ref (kr q), .ref (X.2.2.2 1), va_rf (((rlL lf g q) q).map ad), va_rf (((rlR lf rg g q) q).map ad), va_rf (((rlP lf pa g q) q).map ad), .int (iI (co_799 q))]) := by exact (hT_816.2.1 q sq).1
                      have fn_825 : σ_815 (ad g) = some (oO 16 [.ref (kr g), .ref (X.2.2.2 1), va_rf (((rlL lf g q) g).map ad), va_rf (((rlR lf rg g q) g).map ad), va_rf (((rlP lf pa g q) g).map ad), .int (iI (co_799 g))]) := by exact (hT_816.2.1 g sg).1
                      refine lv_goto (tgt := 5) C.1 C.2.1 dJ21_fixAfterInsertion_255 (by decide) ?_
                      refine lv_aload_n C.1 C.2.1 dJ21_fixAfterInsertion_5 rfl (lv_at hl 2 rfl) ?_
                      refine lv_ifnull C.1 C.2.1 dJ21_fixAfterInsertion_6 ?_
                      refine lv_aload_n C.1 C.2.1 dJ21_fixAfterInsertion_9 rfl (lv_at hl 2 rfl) ?_
                      refine lv_aload_n C.1 C.2.1 dJ21_fixAfterInsertion_10 rfl (lv_at hl 1 rfl) ?_
                      refine gf_J21_101_13 C hS fT_822 rfl dJ21_fixAfterInsertion_11 ?_
                      refine lv_acmp_eq (tgt := 258) (rx := (some (ad kz))) (ry := (some (ad kr__819))) C.1 C.2.1 dJ21_fixAfterInsertion_14 (by decide) (fun hc_826 => ?_) (fun hc_826 => ?_)
                      · skip
                        have fT_827 : σ_815 T = some (oO 13 [.null, .null, .null, .ref (ad kr__819), .int (iI (n)), .int (iI (md)), .null, va_rf (ks), .null]) := by rw [hT_816.1, hk_820]; rfl
                        have fn_828 : σ_815 (ad kr__819) = some (oO 16 [.ref (kr kr__819), .ref (X.2.2.2 1), va_rf (((rlL lf g q) kr__819).map ad), va_rf (((rlR lf rg g q) kr__819).map ad), va_rf (((rlP lf pa g q) kr__819).map ad), .int (iI (co_799 kr__819))]) := by exact (hT_816.2.1 kr__819 sk_821).1
                        refine lv_aload_n C.1 C.2.1 dJ21_fixAfterInsertion_258 rfl (lv_at hl 1 rfl) ?_
                        refine gf_J21_101_13 C hS fT_827 rfl dJ21_fixAfterInsertion_259 ?_
                        refine ti_const C.1 C.2.1 dJ21_fixAfterInsertion_262 ?_
                        refine gp_J21_290_16 C hS fn_828 (by decide) (by decide) (Nat.le_of_ble_eq_true rfl) dJ21_fixAfterInsertion_263 (fun H locs hS => ?_)
                        obtain ⟨σ_829, eσ_829⟩ : ∃ z, z = va_up σ_815 (ad kr__819) (some (oO 16 [.ref (kr kr__819), .ref (X.2.2.2 1), va_rf (((rlL lf g q) kr__819).map ad), va_rf (((rlR lf rg g q) kr__819).map ad), va_rf (((rlP lf pa g q) kr__819).map ad), .int (iI (1))])) := ⟨_, rfl⟩
                        have hS : tl_S X s σ_829 H locs := by rw [eσ_829]; exact hS
                        have he_830 := up_kp eσ_829 (tl_ne fT_827 fn_828 (by decide)) fT_827
                        have he_831 : σ_829 (ad kr__819) = some (oO 16 [.ref (kr kr__819), .ref (X.2.2.2 1), va_rf (((rlL lf g q) kr__819).map ad), va_rf (((rlR lf rg g q) kr__819).map ad), va_rf (((rlP lf pa g q) kr__819).map ad), .int (iI (1))]) := by rw [eσ_829]; exact up_s
                        exact r_v C hr hlk hS ⟨(rlT rt g q), (rlL lf g q), (rlR lf rg g q), (rlP lf pa g q), (fup lo q (lo g)), (fup hi g q), fup co_799 kr__819 1, TM.color hT_816 sk_821 (Or.inr rfl) eσ_829, hB_818, TF.up hF_817 (hT_816.2.1 kr__819 sk_821).1 (Or.inr rfl) eσ_829 hS.fix, (fun k h => by rw [hk_820] at h; cases h; exact fup_s)⟩ dJ21_fixAfterInsertion_266
                      · skip
                        refine lv_aload_n C.1 C.2.1 dJ21_fixAfterInsertion_17 rfl (lv_at hl 2 rfl) ?_
                        refine gf_J21_124_16 C hS fn_823 rfl dJ21_fixAfterInsertion_18 ?_
                        refine gf_J21_290_16 C hS fn_824 rfl dJ21_fixAfterInsertion_21 ?_
                        refine ti_if_ne (tgt := 258) C.1 C.2.1 dJ21_fixAfterInsertion_24 (by decide) ⟨by omega, by omega⟩ (fun hc_832 => ?_) (fun hc_832 => ?_)
                        · skip
                          have fT_833 : σ_815 T = some (oO 13 [.null, .null, .null, .ref (ad kr__819), .int (iI (n)), .int (iI (md)), .null, va_rf (ks), .null]) := by rw [hT_816.1, hk_820]; rfl
                          have fn_834 : σ_815 (ad kr__819) = some (oO 16 [.ref (kr kr__819), .ref (X.2.2.2 1), va_rf (((rlL lf g q) kr__819).map ad), va_rf (((rlR lf rg g q) kr__819).map ad), va_rf (((rlP lf pa g q) kr__819).map ad), .int (iI (co_799 kr__819))]) := by exact (hT_816.2.1 kr__819 sk_821).1
                          refine lv_aload_n C.1 C.2.1 dJ21_fixAfterInsertion_258 rfl (lv_at hl 1 rfl) ?_
                          refine gf_J21_101_13 C hS fT_833 rfl dJ21_fixAfterInsertion_259 ?_
                          refine ti_const C.1 C.2.1 dJ21_fixAfterInsertion_262 ?_
                          refine gp_J21_290_16 C hS fn_834 (by decide) (by decide) (Nat.le_of_ble_eq_true rfl) dJ21_fixAfterInsertion_263 (fun H locs hS => ?_)
                          obtain ⟨σ_835, eσ_835⟩ : ∃ z, z = va_up σ_815 (ad kr__819) (some (oO 16 [.ref (kr kr__819), .ref (X.2.2.2 1), va_rf (((rlL lf g q) kr__819).map ad), va_rf (((rlR lf rg g q) kr__819).map ad), va_rf (((rlP lf pa g q) kr__819).map ad), .int (iI (1))])) := ⟨_, rfl⟩
                          have hS : tl_S X s σ_835 H locs := by rw [eσ_835]; exact hS
                          have he_836 := up_kp eσ_835 (tl_ne fT_833 fn_834 (by decide)) fT_833
                          have he_837 : σ_835 (ad kr__819) = some (oO 16 [.ref (kr kr__819), .ref (X.2.2.2 1), va_rf (((rlL lf g q) kr__819).map ad), va_rf (((rlR lf rg g q) kr__819).map ad), va_rf (((rlP lf pa g q) kr__819).map ad), .int (iI (1))]) := by rw [eσ_835]; exact up_s
                          exact r_v C hr hlk hS ⟨(rlT rt g q), (rlL lf g q), (rlR lf rg g q), (rlP lf pa g q), (fup lo q (lo g)), (fup hi g q), fup co_799 kr__819 1, TM.color hT_816 sk_821 (Or.inr rfl) eσ_835, hB_818, TF.up hF_817 (hT_816.2.1 kr__819 sk_821).1 (Or.inr rfl) eσ_835 hS.fix, (fun k h => by rw [hk_820] at h; cases h; exact fup_s)⟩ dJ21_fixAfterInsertion_266
                        · skip
                          exfalso; omega
                    · skip
                      exact absurd hc_774.symm (fun z => by obtain ⟨u, u1, u2⟩ := Option.map_eq_some_iff.mp z; exact hin (by rw [u1, hT1.2.2 _ _ ((hB.2.2.2.1 q sq).1 u u1).1 sk u2]))
                · skip
                  refine lv_aload_n C.1 C.2.1 dJ21_fixAfterInsertion_169 rfl (lv_at hl 2 rfl) ?_
                  refine tl_cq (t_S (n := 1) C hml hS (m_parentOf_r l X σc (ad kz) (kr kz) (X.2.2.2 1) ((lf kz).map ad) ((rg kz).map ad) (some (ad q)) (co1 kz) fn_657) q775 q776 q74 q777 (by decide +kernel) rfl hl.1 rfl (Nat.le_of_ble_eq_true rfl) dJ21_fixAfterInsertion_170 ⟨Nat.le_of_ble_eq_true rfl, Nat.le_of_ble_eq_true rfl⟩ ⟨Nat.le_refl _, Nat.le_refl _⟩) hS (fun r_838 σ_840 H locs hP_839 hS => ?_)
                  obtain ⟨rfl, rfl⟩ := hP_839
                  refine ti_const C.1 C.2.1 dJ21_fixAfterInsertion_173 ?_
                  refine tl_cv (t_S (n := 2) C hml hS (m_setColor l X σc (ad q) (kr q) (X.2.2.2 1) ((lf q).map ad) ((rg q).map ad) ((pa q).map ad) (co1 q) (hT1.2.1 q sq).1 1 (by decide)) q787 q788 q74 q789 (by decide +kernel) rfl hl.1 rfl (Nat.le_of_ble_eq_true rfl) dJ21_fixAfterInsertion_174 ⟨Nat.le_of_ble_eq_true rfl, Nat.le_of_ble_eq_true rfl⟩ ⟨Nat.le_refl _, Nat.le_refl _⟩) hS (fun σ_843 H locs hP_842 hS => ?_)
                  have hF_846 := TF.up hF1 (hT1.2.1 q sq).1 (Or.inr rfl) hP_842 hS.fix
                  have hT_844 := TM.color hT1 sq (c2 := 1) (Or.inr rfl) hP_842
                  obtain ⟨co_845, eco_845⟩ : ∃ z, z = fup co1 q 1 := ⟨_, rfl⟩
                  rw [← eco_845] at hT_844
                  have hcol_847 : co_845 q = 1 := by rw [eco_845, fup_s]
                  have fT_848 : σ_843 T = some (oO 13 [.null, .null, .null, .ref (ad k0), .int (iI (n)), .int (iI (md)), .null, va_rf (ks), .null]) := by rw [hT_844.1, hk0]; rfl
                  have fn_849 : σ_843 (ad kz) = some (oO 16 [.ref (kr kz), .ref (X.2.2.2 1), va_rf ((lf kz).map ad), va_rf ((rg kz).map ad), .ref (ad q), .int (iI (co_845 kz))]) := by rw [(hT_844.2.1 kz sk).1, hpq]; rfl
                  have fn_850 : σ_843 (ad q) = some (oO 16 [.ref (kr q), .ref (X.2.2.2 1), va_rf ((lf q).map ad), va_rf ((rg q).map ad), .ref (ad g), .int (iI (co_845 q))]) := by rw [(hT_844.2.1 q sq).1, hpg]; rfl
                  have fn_851 : σ_843 (ad g) = some (oO 16 [.ref (kr g), .ref (X.2.2.2 1), .ref (ad u), .ref (ad q), va_rf ((pa g).map ad), .int (iI (co_845 g))]) := by rw [(hT_844.2.1 g sg).1, hgu, hgq]; rfl
                  have fn_852 : σ_843 (ad u) = some (oO 16 [.ref (kr u), .ref (X.2.2.2 1), va_rf ((lf u).map ad), va_rf ((rg u).map ad), va_rf ((pa u).map ad), .int (iI (co_845 u))]) := by exact (hT_844.2.1 u su).1
                  refine lv_aload_n C.1 C.2.1 dJ21_fixAfterInsertion_177 rfl (lv_at hl 0 rfl) ?_
                  refine ti_const C.1 C.2.1 dJ21_fixAfterInsertion_178 ?_
                  refine tl_cv (t_S (n := 2) C hml hS (m_setColor l X σ_843 (ad u) (kr u) (X.2.2.2 1) ((lf u).map ad) ((rg u).map ad) ((pa u).map ad) (co_845 u) (hT_844.2.1 u su).1 1 (by decide)) q787 q788 q74 q789 (by decide +kernel) rfl hl.1 rfl (Nat.le_of_ble_eq_true rfl) dJ21_fixAfterInsertion_179 ⟨Nat.le_of_ble_eq_true rfl, Nat.le_of_ble_eq_true rfl⟩ ⟨Nat.le_refl _, Nat.le_refl _⟩) hS (fun σ_855 H locs hP_854 hS => ?_)
                  have hF_858 := TF.up hF_846 (hT_844.2.1 u su).1 (Or.inr rfl) hP_854 hS.fix
                  have hT_856 := TM.color hT_844 su (c2 := 1) (Or.inr rfl) hP_854
                  obtain ⟨co_857, eco_857⟩ : ∃ z, z = fup co_845 u 1 := ⟨_, rfl⟩
                  rw [← eco_857] at hT_856
                  have hcol_859 : co_857 q = 1 := by rw [eco_857, fup_n (by omega)]; exact hcol_847
                  have hcol_860 : co_857 u = 1 := by rw [eco_857, fup_s]
                  have fT_861 : σ_855 T = some (oO 13 [.null, .null, .null, .ref (ad k0), .int (iI (n)), .int (iI (md)), .null, va_rf (ks), .null]) := by rw [hT_856.1, hk0]; rfl
                  have fn_862 : σ_855 (ad kz) = some (oO 16 [.ref (kr kz), .ref (X.2.2.2 1), va_rf ((lf kz).map ad), va_rf ((rg kz).map ad), .ref (ad q), .int (iI (co_857 kz))]) := by rw [(hT_856.2.1 kz sk).1, hpq]; rfl
                  have fn_863 : σ_855 (ad q) = some (oO 16 [.ref (kr q), .ref (X.2.2.2 1), va_rf ((lf q).map ad), va_rf ((rg q).map ad), .ref (ad g), .int (iI (co_857 q))]) := by rw [(hT_856.2.1 q sq).1, hpg]; rfl
                  have fn_864 : σ_855 (ad g) = some (oO 16 [.ref (kr g), .ref (X.2.2.2 1), .ref (ad u), .ref (ad q), va_rf ((pa g).map ad), .int (iI (co_857 g))]) := by rw [(hT_856.2.1 g sg).1, hgu, hgq]; rfl
                  have fn_865 : σ_855 (ad u) = some (oO 16 [.ref (kr u), .ref (X.2.2.2 1), va_rf ((lf u).map ad), va_rf ((rg u).map ad), va_rf ((pa u).map ad), .int (iI (co_857 u))]) := by exact (hT_856.2.1 u su).1
                  refine lv_aload_n C.1 C.2.1 dJ21_fixAfterInsertion_182 rfl (lv_at hl 2 rfl) ?_
                  refine tl_cq (t_S (n := 1) C hml hS (m_parentOf_r l X σ_855 (ad kz) (kr kz) (X.2.2.2 1) ((lf kz).map ad) ((rg kz).map ad) (some (ad q)) (co_857 kz) fn_862) q775 q776 q74 q777 (by decide +kernel) rfl hl.1 rfl (Nat.le_of_ble_eq_true rfl) dJ21_fixAfterInsertion_183 ⟨Nat.le_of_ble_eq_true rfl, Nat.le_of_ble_eq_true rfl⟩ ⟨Nat.le_refl _, Nat.le_refl _⟩) hS (fun r_866 σ_868 H locs hP_867 hS => ?_)
                  obtain ⟨rfl, rfl⟩ := hP_867
                  refine tl_cq (t_S (n := 1) C hml hS (m_parentOf_r l X σ_855 (ad q) (kr q) (X.2.2.2 1) ((lf q).map ad) ((rg q).map ad) (some (ad g)) (co_857 q) fn_863) q775 q776 q74 q777 (by decide +kernel) rfl hl.1 rfl (Nat.le_of_ble_eq_true rfl) dJ21_fixAfterInsertion_186 ⟨Nat.le_of_ble_eq_true rfl, Nat.le_of_ble_eq_true rfl⟩ ⟨Nat.le_refl _, Nat.le_refl _⟩) hS (fun r_869 σ_871 H locs hP_870 hS => ?_)
                  obtain ⟨rfl, rfl⟩ := hP_870
                  refine ti_const C.1 C.2.1 dJ21_fixAfterInsertion_189 ?_
                  refine tl_cv (t_S (n := 2) C hml hS (m_setColor l X σ_855 (ad g) (kr g) (X.2.2.2 1) ((lf g).map ad) ((rg g).map ad) ((pa g).map ad) (co_857 g) (hT_856.2.1 g sg).1 0 (by decide)) q787 q788 q74 q789 (by decide +kernel) rfl hl.1 rfl (Nat.le_of_ble_eq_true rfl) dJ21_fixAfterInsertion_190 ⟨Nat.le_of_ble_eq_true rfl, Nat.le_of_ble_eq_true rfl⟩ ⟨Nat.le_refl _, Nat.le_refl _⟩) hS (fun σ_874 H locs hP_873 hS => ?_)
                  have hF_877 := TF.up hF_858 (hT_856.2.1 g sg).1 (Or.inr rfl) hP_873 hS.fix
                  have hT_875 := TM.color hT_856 sg (c2 := 0) (Or.inl rfl) hP_873
                  obtain ⟨co_876, eco_876⟩ : ∃ z, z = fup co_857 g 0 := ⟨_, rfl⟩
                  rw [← eco_876] at hT_875
                  have hcol_878 : co_876 q = 1 := by rw [eco_876, fup_n (by omega)]; exact hcol_859
                  have hcol_879 : co_876 u = 1 := by rw [eco_876, fup_n (by omega)]; exact hcol_860
                  have hcol_880 : co_876 g = 0 := by rw [eco_876, fup_s]
                  have fT_881 : σ_874 T = some (oO 13 [.null, .null, .null, .ref (ad k0), .int (iI (n)), .int (iI (md)), .null, va_rf (ks), .null]) := by rw [hT_875.1, hk0]; rfl
                  have fn_882 : σ_874 (ad kz) = some (oO 16 [.ref (kr kz), .ref (X.2.2.2 1), va_rf ((lf kz).map ad), va_rf ((rg kz).map ad), .ref (ad q), .int (iI (co_876 kz))]) := by rw [(hT_875.2.1 kz sk).1, hpq]; rfl
                  have fn_883 : σ_874 (ad q) = some (oO 16 [.ref (kr q), .ref (X.2.2.2 1), va_rf ((lf q).map ad), va_rf ((rg q).map ad), .ref (ad g), .int (iI (co_876 q))]) := by rw [(hT_875.2.1 q sq).1, hpg]; rfl
                  have fn_884 : σ_874 (ad g) = some (oO 16 [.ref (kr g), .ref (X.2.2.2 1), .ref (ad u), .ref (ad q), va_rf ((pa g).map ad), .int (iI (co_876 g))]) := by rw [(hT_875.2.1 g sg).1, hgu, hgq]; rfl
                  have fn_885 : σ_874 (ad u) = some (oO 16 [.ref (kr u), .ref (X.2.2.2 1), va_rf ((lf u).map ad), va_rf ((rg u).map ad), va_rf ((pa u).map ad), .int (iI (co_876 u))]) := by exact (hT_875.2.1 u su).1
                  refine lv_aload_n C.1 C.2.1 dJ21_fixAfterInsertion_193 rfl (lv_at hl 2 rfl) ?_
                  refine tl_cq (t_S (n := 1) C hml hS (m_parentOf_r l X σ_874 (ad kz) (kr kz) (X.2.2.2 1) ((lf kz).map ad) ((rg kz).map ad) (some (ad q)) (co_876 kz) fn_882) q775 q776 q74 q777 (by decide +kernel) rfl hl.1 rfl (Nat.le_of_ble_eq_true rfl) dJ21_fixAfterInsertion_194 ⟨Nat.le_of_ble_eq_true rfl, Nat.le_of_ble_eq_true rfl⟩ ⟨Nat.le_refl _, Nat.le_refl _⟩) hS (fun r_886 σ_888 H locs hP_887 hS => ?_)
                  obtain ⟨rfl, rfl⟩ := hP_887
                  refine tl_cq (t_S (n := 1) C hml hS (m_parentOf_r l X σ_874 (ad q) (kr q) (X.2.2.2 1) ((lf q).map ad) ((rg q).map ad) (some (ad g)) (co_876 q) fn_883) q775 q776 q74 q777 (by decide +kernel) rfl hl.1 rfl (Nat.le_of_ble_eq_true rfl) dJ21_fixAfterInsertion_197 ⟨Nat.le_of_ble_eq_true rfl, Nat.le_of_ble_eq_true rfl⟩ ⟨Nat.le_refl _, Nat.le_refl _⟩) hS (fun r_889 σ_891 H locs hP_890 hS => ?_)
                  obtain ⟨rfl, rfl⟩ := hP_890
                  refine lv_astore_n (lv' := [(1, .ref (ad g)), (2, .ref (ad u)), (0, .ref (T))]) C.1 C.2.1 dJ21_fixAfterInsertion_200 rfl hl (by decide) rfl (fun ls hl => ?_)
                  refine lv_goto (tgt := 255) C.1 C.2.1 dJ21_fixAfterInsertion_201 (by decide) ?_
                  refine lv_goto (tgt := 5) C.1 C.2.1 dJ21_fixAfterInsertion_255 (by decide) ?_
                  exact ih_5 (ad g) g ⟨sg, rfl⟩ (by omega) σ_874 co_876 hT_875 hF_877 (if z : g = k0 then Or.inl (by rw [z]; exact hk0) else Or.inr (fun k h => by rw [hk0] at h; cases h; have hb := hrb.resolve_left (fun v => hkn (Option.some.inj (v.symm.trans hk0))) k0 hk0; rw [eco_876, eco_857, eco_845]; simp only [fup]; rw [if_neg (fun v => z v.symm)]; split; (rfl); (split; (rfl); exact hb))) _ _ _ hS (lv_sub hl [2, 0] rfl)
            · skip
              exact absurd hc_474.symm (fun z => by obtain ⟨u, u1, u2⟩ := Option.map_eq_some_iff.mp z; exact hgn (by rw [u1, hT1.2.2 _ _ ((hB.2.2.2.1 g sg).1 u u1).1 sq u2]))
  exact loop_3 ((2 * N - (hi x - lo x)).toNat + 1) (ad x) x ⟨hx, rfl⟩ (by omega) σ_1 (fup co x 0) (TM.color hT hx (Or.inl rfl) eσ_1) (TF.up (TF.rf hfix) (hT.2.1 x hx).1 (Or.inr rfl) eσ_1 hS.fix) (Or.inr (fun k h => by rw [fup_n (fun z => hxr (by rw [← z]; exact h))]; exact hrb0 k h)) _ _ _ hS (lv_sub hl [0, 1] rfl)

