/-! TREEMAP.put, TREESET.add (printed by gen_tree8.py) -/
set_option maxRecDepth 100000
theorem up_same {σ : tl_H} {a : Nat} {e : va_E} (h : σ a = some e) : va_up σ a (some e) = σ := by
  funext z
  by_cases hz : z = a
  · rw [hz, up_s, h]
  · exact up_n hz
theorem gf_J21_105_16 {p : Program} {l : Launch} {e : Env} {R : Room} {s : State} {m : MethodId} {args : Array Value} {below : List Frame} {meth : Method} {c : Code} {H : Heap} {locs : List Loc} {cells slots : Nat} {Q : State → Prop} {cc : ByteArray} {pc : Nat} {ls : Array Slot} {rest : List Value} {X : tl_X} {σ : tl_H} {a : Nat} {fs : List Value} {v : Value} (C : tl_C X p s m args c cc RJ21) (hS : tl_S X s σ H locs) (he : σ a = some (oO 16 fs)) (hv : fs[0]? = some v) (hdg : decode cc pc = .ok (.getfield 105, 3)) (kk : W p l e R s m args below meth c H locs cells slots Q (F0 m (pc + 3) ls (v :: rest))) : W p l e R s m args below meth c H locs cells slots Q (F0 m pc ls (.ref a :: rest)) :=
  h_get (ref := "java/util/TreeMap$Entry") C hS in_J30 rfl 0 (by decide) q742 (fun _ h => h) he hv hdg kk
theorem gf_J21_58_16 {p : Program} {l : Launch} {e : Env} {R : Room} {s : State} {m : MethodId} {args : Array Value} {below : List Frame} {meth : Method} {c : Code} {H : Heap} {locs : List Loc} {cells slots : Nat} {Q : State → Prop} {cc : ByteArray} {pc : Nat} {ls : Array Slot} {rest : List Value} {X : tl_X} {σ : tl_H} {a : Nat} {fs : List Value} {v : Value} (C : tl_C X p s m args c cc RJ21) (hS : tl_S X s σ H locs) (he : σ a = some (oO 16 fs)) (hv : fs[1]? = some v) (hdg : decode cc pc = .ok (.getfield 58, 3)) (kk : W p l e R s m args below meth c H locs cells slots Q (F0 m (pc + 3) ls (v :: rest))) : W p l e R s m args below meth c H locs cells slots Q (F0 m pc ls (.ref a :: rest)) :=
  h_get (ref := "java/util/TreeMap$Entry") C hS in_J30 rfl 1 (by decide) q744 (fun _ h => h) he hv hdg kk
theorem gp_J21_58_16 {p : Program} {l : Launch} {e : Env} {R : Room} {s : State} {m : MethodId} {args : Array Value} {below : List Frame} {meth : Method} {c : Code} {H : Heap} {locs : List Loc} {cells slots : Nat} {Q : State → Prop} {cc : ByteArray} {pc : Nat} {ls : Array Slot} {rest : List Value} {X : tl_X} {σ : tl_H} {a : Nat} {fs : List Value} {v : Value} (C : tl_C X p s m args c cc RJ21) (hS : tl_S X s σ H locs) (he : σ a = some (oO 16 fs)) (hn : narrow (tyJ30 1) v = v) (hfit : fits (tyJ30 1) v = true) (hl : 1 < fs.length) (hdg : decode cc pc = .ok (.putfield 58, 3)) (kk : ∀ (H1 : Heap) (locs1 : List Loc), tl_S X s (va_up σ a (some (oO 16 (fs.set 1 v)))) H1 locs1 → W p l e R s m args below meth c H1 locs1 cells slots Q (F0 m (pc + 3) ls rest)) : W p l e R s m args below meth c H locs cells slots Q (F0 m pc ls (v :: .ref a :: rest)) :=
  h_put (ref := "java/util/TreeMap$Entry") C hS in_J30 tyJ30 tyJ30_ok nmJ30 rfl 1 (by decide) q744 (fun _ h => h) rfl (by decide) he hn hfit hl hdg kk
set_option maxHeartbeats 4000000 in
theorem m_put2s (l : Launch) (X : tl_X) (σ : tl_H) (T : Nat) (n md : Int) (ks : Option Nat) (N : Int) (S : Int → Prop) (rt : Option Int) (lf rg pa : Int → Option Int) (lo hi co : Int → Int) (ad kr : Int → Nat) (hT : TM X σ T n md ks S rt lf rg pa co ad kr) (hB : BT N S rt lf rg pa lo hi) (a : Nat) (x : Int) (hz : σ a = some (cZ x)) (hx : -N < x ∧ x < N) (hN : N ≤ 1000000) (hrb : ∀ k, rt = some k → co k = 1) (k0 : Int) (hk0 : rt = some k0) : tl_Met l X yJ21_put_2 cJ21_put_2 10 ((Option.some (FieldType.object "java/lang/Object"))) 5 (1) (6) [.ref (T), .ref (a), .ref (X.2.2.2 1), .int (iI (1))] σ (tl_Qq X (fun r σ' => ∃ (n' md' : Int) (rt' : Option Int) (lf' rg' pa' : Int → Option Int) (lo' hi' co' : Int → Int) (ad' kr' : Int → Nat), TM X σ' T n' md' ks (fun z => z = x ∨ S z) rt' lf' rg' pa' co' ad' kr' ∧ BT N (fun z => z = x ∨ S z) rt' lf' rg' pa' lo' hi' ∧ TF X σ σ' ∧ ∀ k, rt' = some k → co' k = 1)) := by
  obtain ⟨sk0, pk0, lk0, hk00⟩ := hB.2.2.2.2.2.2.1 k0 hk0
  have fT : σ T = some (oO 13 [.null, .null, .null, .ref (ad k0), .int (iI (n)), .int (iI (md)), .null, va_rf (ks), .null]) := by rw [hT.1, hk0]; rfl
  refine tl_start (by decide) (Nat.le_of_ble_eq_true rfl) (fun p e s m below meth c ls C hr hml hlk hnm hS hl => ?_)
  have hl : lv_has ls 10 [(0, .ref (T)), (1, .ref (a)), (2, .ref (X.2.2.2 1)), (3, .int (iI (1)))] := hl
  refine lv_aload_n C.1 C.2.1 dJ21_put_2_0 rfl (lv_at hl 0 rfl) ?_
  refine gf_J21_101_13 C hS fT rfl dJ21_put_2_1 ?_
  refine lv_astore (lv' := [(4, .ref (ad k0)), (0, .ref (T)), (1, .ref (a)), (2, .ref (X.2.2.2 1)), (3, .int (iI (1)))]) C.1 C.2.1 dJ21_put_2_4 hl (by decide) rfl (fun ls hl => ?_)
  refine lv_aload C.1 C.2.1 dJ21_put_2_6 (lv_at hl 0 rfl) ?_
  refine lv_ifnonnull (tgt := 19) C.1 C.2.1 dJ21_put_2_8 (by decide) ?_
  refine lv_aload_n C.1 C.2.1 dJ21_put_2_19 rfl (lv_at hl 1 rfl) ?_
  refine gf_J21_16_13 C hS fT rfl dJ21_put_2_20 ?_
  refine lv_astoreN (lv' := [(7, .null), (4, .ref (ad k0)), (0, .ref (T)), (1, .ref (a)), (2, .ref (X.2.2.2 1)), (3, .int (iI (1)))]) C.1 C.2.1 dJ21_put_2_23 hl (by decide) rfl (fun ls hl => ?_)
  refine lv_aloadN C.1 C.2.1 dJ21_put_2_25 (lv_at hl 0 rfl) ?_
  refine lv_ifnullN (tgt := 112) C.1 C.2.1 dJ21_put_2_27 (by decide) ?_
  refine lv_aload_n C.1 C.2.1 dJ21_put_2_112 rfl (lv_at hl 3 rfl) ?_
  refine tl_cq (t_S (n := 1) C hml hS (m_nonNull l X σ a) q764 q765 q67 q766 (by decide +kernel) rfl hl.1 rfl (Nat.le_of_ble_eq_true rfl) dJ21_put_2_113 ⟨Nat.le_of_ble_eq_true rfl, Nat.le_of_ble_eq_true rfl⟩ ⟨by show 0 + (0) ≤ 1; omega, by show 0 + (0) ≤ 6; omega⟩) hS (fun r_1 σ_3 H locs hP_2 hS => ?_)
  obtain ⟨rfl, rfl⟩ := hP_2
  refine lv_pop C.1 C.2.1 dJ21_put_2_116 rfl ?_
  refine lv_aload_n C.1 C.2.1 dJ21_put_2_117 rfl (lv_at hl 3 rfl) ?_
  refine h_castY (ci := 15) C hS rfl q501 (by decide +kernel) hz dJ21_put_2_118 ?_
  refine lv_astore (lv' := [(8, .ref (a)), (7, .null), (4, .ref (ad k0)), (0, .ref (T)), (1, .ref (a)), (2, .ref (X.2.2.2 1)), (3, .int (iI (1)))]) C.1 C.2.1 dJ21_put_2_121 hl (by decide) rfl (fun ls hl => ?_)
  have loop_4 : ∀ (n_5 : Nat) (az : Nat) (kz : Int), S kz ∧ az = ad kz ∧ lo kz < x ∧ x < hi kz → hi kz - lo kz < (n_5 : Int) → ∀ (H : Heap) (locs : List Loc) (ls : Array Slot), tl_S X s σ H locs → lv_has ls 10 [(8, .ref (a)), (4, .ref (az)), (0, .ref (T)), (1, .ref (a)), (2, .ref (X.2.2.2 1)), (3, .int (iI (1)))] → W p l e (tl_rm 5 (1) (6)) s m ([.ref (T), .ref (a), .ref (X.2.2.2 1), .int (iI (1))] : List Value).toArray below meth c H locs (0) (0) (MQ below (tl_Qq X (fun r σ' => ∃ (n' md' : Int) (rt' : Option Int) (lf' rg' pa' : Int → Option Int) (lo' hi' co' : Int → Int) (ad' kr' : Int → Nat), TM X σ' T n' md' ks (fun z => z = x ∨ S z) rt' lf' rg' pa' co' ad' kr' ∧ BT N (fun z => z = x ∨ S z) rt' lf' rg' pa' lo' hi' ∧ TF X σ σ' ∧ ∀ k, rt' = some k → co' k = 1)) ([.ref (T), .ref (a), .ref (X.2.2.2 1), .int (iI (1))] : List Value).toArray s (1) (6) (tl_A X)) (F0 m 123 ls []) := by
    intro n_5
    induction n_5 with
    | zero => intro az kz hinv hms; have := hB.1 kz hinv.1; omega
    | succ n_5 ih_6 =>
      intro az kz hinv hms_7  H locs ls hS hl
      obtain ⟨sk, haz, hlo, hhi⟩ := hinv
      subst haz
      have bk := hB.1 kz sk
      have fz : σ (ad kz) = some (oO 16 [.ref (kr kz), .ref (X.2.2.2 1), va_rf ((lf kz).map ad), va_rf ((rg kz).map ad), va_rf ((pa kz).map ad), .int (iI (co kz))]) := (hT.2.1 kz sk).1
      refine lv_aload C.1 C.2.1 dJ21_put_2_123 (lv_at hl 1 rfl) ?_
      refine lv_astore (lv' := [(6, .ref (ad kz)), (8, .ref (a)), (4, .ref (ad kz)), (0, .ref (T)), (1, .ref (a)), (2, .ref (X.2.2.2 1)), (3, .int (iI (1)))]) C.1 C.2.1 dJ21_put_2_125 hl (by decide) rfl (fun ls hl => ?_)
      refine lv_aload C.1 C.2.1 dJ21_put_2_127 (lv_at hl 1 rfl) ?_
      refine lv_aload C.1 C.2.1 dJ21_put_2_129 (lv_at hl 2 rfl) ?_
      refine gf_J21_105_16 C hS fz rfl dJ21_put_2_131 ?_
      refine tl_cFi (t_F (n := 1) (ci := 15) (K := RJ25) C hml hS (m_Z_compareTo l X σ a (kr kz) x kz (by omega) hz (hT.2.1 kz sk).2.1) q503 q507 q509 q81 q511 (by decide +kernel) (by decide +kernel) hz rfl rfl hl.1 rfl (Nat.le_of_ble_eq_true rfl) dJ21_put_2_134 ⟨Nat.le_of_ble_eq_true rfl, Nat.le_of_ble_eq_true rfl⟩ ⟨by show 0 + (0) ≤ 1; omega, by show 0 + (0) ≤ 6; omega⟩) hS (fun r_8 σ_10 H locs hP_9 hS => ?_)
      obtain ⟨rfl, rfl⟩ := hP_9
      rcases Int.lt_trichotomy x kz with htr | htr | htr
      · skip
        have hic : icm x kz = (-1) := if_pos htr
        rw [hic]
        refine lv_istore (lv' := [(5, .int (iI ((-1)))), (6, .ref (ad kz)), (8, .ref (a)), (4, .ref (ad kz)), (0, .ref (T)), (1, .ref (a)), (2, .ref (X.2.2.2 1)), (3, .int (iI (1)))]) C.1 C.2.1 dJ21_put_2_139 hl (by decide) rfl (fun ls hl => ?_)
        refine lv_iload C.1 C.2.1 dJ21_put_2_141 (lv_at hl 0 rfl) ?_
        refine ti_if_ge (tgt := 156) C.1 C.2.1 dJ21_put_2_143 (by decide) ⟨by decide, by decide⟩ (fun hc_11 => ?_) (fun hc_11 => ?_)
        · skip
          exact absurd hc_11 (by decide)
        · skip
          cases hj : lf kz with
          | none =>
            have he_12 : σ (ad kz) = some (oO 16 [.ref (kr kz), .ref (X.2.2.2 1), .null, va_rf ((rg kz).map ad), va_rf ((pa kz).map ad), .int (iI (co kz))]) := by have u := fz; rw [hj] at u; exact u
            refine lv_aload C.1 C.2.1 dJ21_put_2_146 (lv_at hl 3 rfl) ?_
            refine gf_J21_111_16 C hS he_12 rfl dJ21_put_2_148 ?_
            refine lv_astoreN (lv' := [(4, .null), (5, .int (iI ((-1)))), (6, .ref (ad kz)), (8, .ref (a)), (0, .ref (T)), (1, .ref (a)), (2, .ref (X.2.2.2 1)), (3, .int (iI (1)))]) C.1 C.2.1 dJ21_put_2_151 hl (by decide) rfl (fun ls hl => ?_)
            refine lv_goto (tgt := 196) C.1 C.2.1 dJ21_put_2_153 (by decide) ?_
            refine lv_aloadN C.1 C.2.1 dJ21_put_2_196 (lv_at hl 0 rfl) ?_
            refine lv_ifnonnullN C.1 C.2.1 dJ21_put_2_198 ?_
            refine lv_aload_n C.1 C.2.1 dJ21_put_2_201 rfl (lv_at hl 4 rfl) ?_
            refine lv_aload_n C.1 C.2.1 dJ21_put_2_202 rfl (lv_at hl 5 rfl) ?_
            refine lv_aload_n C.1 C.2.1 dJ21_put_2_203 rfl (lv_at hl 6 rfl) ?_
            refine lv_aload C.1 C.2.1 dJ21_put_2_204 (lv_at hl 2 rfl) ?_
            refine lv_iload C.1 C.2.1 dJ21_put_2_206 (lv_at hl 1 rfl) ?_
            refine ti_if_ge (tgt := 215) C.1 C.2.1 dJ21_put_2_208 (by decide) ⟨by decide, by decide⟩ (fun hc_13 => ?_) (fun hc_13 => ?_)
            · skip
              exact absurd hc_13 (by decide)
            · skip
              refine ti_const C.1 C.2.1 dJ21_put_2_211 ?_
              refine lv_goto (tgt := 216) C.1 C.2.1 dJ21_put_2_212 (by decide) ?_
              refine tl_cv (t_V (n := 4) (ci := 13) C hml hS (m_addEntryL l X σ T n md ks N S rt lf rg pa lo hi co ad kr hT hB a x kz sk hz hlo htr hj hrb) q767 q769 qs6 q74 q770 (by decide +kernel) fT rfl rfl hl.1 rfl (Nat.le_of_ble_eq_true rfl) dJ21_put_2_216 ⟨Nat.le_of_ble_eq_true rfl, Nat.le_of_ble_eq_true rfl⟩ ⟨by show 0 + (1) ≤ 1; omega, by show 0 + (6) ≤ 6; omega⟩) hS (fun σ_16 H locs hP_15 hS => ?_)
              obtain ⟨rt', lf', rg', pa', lo', hi', co', ad', kr', g1, g2, g3, g4⟩ := hP_15
              refine lv_null C.1 C.2.1 dJ21_put_2_219 ?_
              refine W.widen (k := 1) (n := 6) (by omega) (by omega) ?_
              exact r_q (v := none) C hr (by first | exact Or.inl ⟨_, rfl⟩ | exact Or.inr ⟨_, rfl⟩) hlk hS ⟨n + 1, md + 1, rt', lf', rg', pa', lo', hi', co', ad', kr', g1, g2, g3, g4⟩ dJ21_put_2_220
          | some j =>
            have he_17 : σ (ad kz) = some (oO 16 [.ref (kr kz), .ref (X.2.2.2 1), .ref (ad j), va_rf ((rg kz).map ad), va_rf ((pa kz).map ad), .int (iI (co kz))]) := by have u := fz; rw [hj] at u; exact u
            obtain ⟨sj, pj, lj, hij⟩ := (hB.2.2.2.1 kz sk).1 j hj
            refine lv_aload C.1 C.2.1 dJ21_put_2_146 (lv_at hl 3 rfl) ?_
            refine gf_J21_111_16 C hS he_17 rfl dJ21_put_2_148 ?_
            refine lv_astore (lv' := [(4, .ref (ad j)), (5, .int (iI ((-1)))), (6, .ref (ad kz)), (8, .ref (a)), (0, .ref (T)), (1, .ref (a)), (2, .ref (X.2.2.2 1)), (3, .int (iI (1)))]) C.1 C.2.1 dJ21_put_2_151 hl (by decide) rfl (fun ls hl => ?_)
            refine lv_goto (tgt := 196) C.1 C.2.1 dJ21_put_2_153 (by decide) ?_
            refine lv_aload C.1 C.2.1 dJ21_put_2_196 (lv_at hl 0 rfl) ?_
            refine lv_ifnonnull (tgt := 123) C.1 C.2.1 dJ21_put_2_198 (by decide) ?_
            exact ih_6 (ad j) j ⟨sj, rfl, by omega, by omega⟩ (by omega) _ _ _ hS (lv_sub hl [3, 0, 4, 5, 6, 7] rfl)
      · skip
        have hic : icm x kz = 0 := by unfold icm; rw [if_neg (by omega), if_pos htr]
        rw [hic]
        refine lv_istore (lv' := [(5, .int (iI (0))), (6, .ref (ad kz)), (8, .ref (a)), (4, .ref (ad kz)), (0, .ref (T)), (1, .ref (a)), (2, .ref (X.2.2.2 1)), (3, .int (iI (1)))]) C.1 C.2.1 dJ21_put_2_139 hl (by decide) rfl (fun ls hl => ?_)
        refine lv_iload C.1 C.2.1 dJ21_put_2_141 (lv_at hl 0 rfl) ?_
        refine ti_if_ge (tgt := 156) C.1 C.2.1 dJ21_put_2_143 (by decide) ⟨by decide, by decide⟩ (fun hc_18 => ?_) (fun hc_18 => ?_)
        · skip
          refine lv_iload C.1 C.2.1 dJ21_put_2_156 (lv_at hl 0 rfl) ?_
          refine ti_if_le (tgt := 171) C.1 C.2.1 dJ21_put_2_158 (by decide) ⟨by decide, by decide⟩ (fun hc_19 => ?_) (fun hc_19 => ?_)
          · skip
            refine lv_aload C.1 C.2.1 dJ21_put_2_171 (lv_at hl 3 rfl) ?_
            refine gf_J21_58_16 C hS fz rfl dJ21_put_2_173 ?_
            refine lv_astore (lv' := [(9, .ref (X.2.2.2 1)), (5, .int (iI (0))), (6, .ref (ad kz)), (8, .ref (a)), (4, .ref (ad kz)), (0, .ref (T)), (1, .ref (a)), (2, .ref (X.2.2.2 1)), (3, .int (iI (1)))]) C.1 C.2.1 dJ21_put_2_176 hl (by decide) rfl (fun ls hl => ?_)
            refine lv_iload_n C.1 C.2.1 dJ21_put_2_178 rfl (lv_at hl 8 rfl) ?_
            refine ti_if_ne (tgt := 187) C.1 C.2.1 dJ21_put_2_179 (by decide) ⟨by decide, by decide⟩ (fun hc_20 => ?_) (fun hc_20 => ?_)
            · skip
              refine lv_aload C.1 C.2.1 dJ21_put_2_187 (lv_at hl 4 rfl) ?_
              refine lv_aload_n C.1 C.2.1 dJ21_put_2_189 rfl (lv_at hl 7 rfl) ?_
              refine gp_J21_58_16 C hS fz rfl rfl (Nat.le_of_ble_eq_true rfl) dJ21_put_2_190 (fun H locs hS => ?_)
              obtain ⟨σ_21, eσ_21⟩ : ∃ z, z = va_up σ (ad kz) (some (oO 16 [.ref (kr kz), .ref (X.2.2.2 1), va_rf ((lf kz).map ad), va_rf ((rg kz).map ad), va_rf ((pa kz).map ad), .int (iI (co kz))])) := ⟨_, rfl⟩
              have hS : tl_S X s σ_21 H locs := by rw [eσ_21]; exact hS
              have he_22 := up_kp eσ_21 (tl_ne fT fz (by decide)) fT
              have he_23 := up_kp eσ_21 (tl_ne hz fz (by decide)) hz
              have he_24 : σ_21 (ad kz) = some (oO 16 [.ref (kr kz), .ref (X.2.2.2 1), va_rf ((lf kz).map ad), va_rf ((rg kz).map ad), va_rf ((pa kz).map ad), .int (iI (co kz))]) := by rw [eσ_21]; exact up_s
              refine lv_aload C.1 C.2.1 dJ21_put_2_193 (lv_at hl 0 rfl) ?_
              refine W.widen (k := 1) (n := 6) (by omega) (by omega) ?_
              have es : σ_21 = σ := by rw [eσ_21]; exact up_same fz
              have hSS : (fun z => z = x ∨ S z) = S := by funext z; exact propext ⟨fun h => h.elim (fun e => by rw [e, htr]; exact sk) id, Or.inr⟩
              exact r_q (v := (some (X.2.2.2 1))) C hr (by first | exact Or.inl ⟨_, rfl⟩ | exact Or.inr ⟨_, rfl⟩) hlk hS ⟨n, md, rt, lf, rg, pa, lo, hi, co, ad, kr, by rw [hSS, es]; exact hT, by rw [hSS]; exact hB, by rw [es]; exact TF.rf (es ▸ hS.fix), hrb⟩ dJ21_put_2_195
            · skip
              exact absurd hc_20 (by decide)
          · skip
            exact absurd hc_19 (by decide)
        · skip
          exact absurd hc_18 (by decide)
      · skip
        have hic : icm x kz = 1 := by unfold icm; rw [if_neg (by omega), if_neg (by omega)]
        rw [hic]
        refine lv_istore (lv' := [(5, .int (iI (1))), (6, .ref (ad kz)), (8, .ref (a)), (4, .ref (ad kz)), (0, .ref (T)), (1, .ref (a)), (2, .ref (X.2.2.2 1)), (3, .int (iI (1)))]) C.1 C.2.1 dJ21_put_2_139 hl (by decide) rfl (fun ls hl => ?_)
        refine lv_iload C.1 C.2.1 dJ21_put_2_141 (lv_at hl 0 rfl) ?_
        refine ti_if_ge (tgt := 156) C.1 C.2.1 dJ21_put_2_143 (by decide) ⟨by decide, by decide⟩ (fun hc_25 => ?_) (fun hc_25 => ?_)
        · skip
          refine lv_iload C.1 C.2.1 dJ21_put_2_156 (lv_at hl 0 rfl) ?_
          refine ti_if_le (tgt := 171) C.1 C.2.1 dJ21_put_2_158 (by decide) ⟨by decide, by decide⟩ (fun hc_26 => ?_) (fun hc_26 => ?_)
          · skip
            exact absurd hc_26 (by decide)
          · skip
            cases hj : rg kz with
            | none =>
              have he_27 : σ (ad kz) = some (oO 16 [.ref (kr kz), .ref (X.2.2.2 1), va_rf ((lf kz).map ad), .null, va_rf ((pa kz).map ad), .int (iI (co kz))]) := by have u := fz; rw [hj] at u; exact u
              refine lv_aload C.1 C.2.1 dJ21_put_2_161 (lv_at hl 3 rfl) ?_
              refine gf_J21_114_16 C hS he_27 rfl dJ21_put_2_163 ?_
              refine lv_astoreN (lv' := [(4, .null), (5, .int (iI (1))), (6, .ref (ad kz)), (8, .ref (a)), (0, .ref (T)), (1, .ref (a)), (2, .ref (X.2.2.2 1)), (3, .int (iI (1)))]) C.1 C.2.1 dJ21_put_2_166 hl (by decide) rfl (fun ls hl => ?_)
              refine lv_goto (tgt := 196) C.1 C.2.1 dJ21_put_2_168 (by decide) ?_
              refine lv_aloadN C.1 C.2.1 dJ21_put_2_196 (lv_at hl 0 rfl) ?_
              refine lv_ifnonnullN C.1 C.2.1 dJ21_put_2_198 ?_
              refine lv_aload_n C.1 C.2.1 dJ21_put_2_201 rfl (lv_at hl 4 rfl) ?_
              refine lv_aload_n C.1 C.2.1 dJ21_put_2_202 rfl (lv_at hl 5 rfl) ?_
              refine lv_aload_n C.1 C.2.1 dJ21_put_2_203 rfl (lv_at hl 6 rfl) ?_
              refine lv_aload C.1 C.2.1 dJ21_put_2_204 (lv_at hl 2 rfl) ?_
              refine lv_iload C.1 C.2.1 dJ21_put_2_206 (lv_at hl 1 rfl) ?_
              refine ti_if_ge (tgt := 215) C.1 C.2.1 dJ21_put_2_208 (by decide) ⟨by decide, by decide⟩ (fun hc_28 => ?_) (fun hc_28 => ?_)
              · skip
                refine ti_const C.1 C.2.1 dJ21_put_2_215 ?_
                refine tl_cv (t_V (n := 4) (ci := 13) C hml hS (m_addEntryR l X σ T n md ks N S rt lf rg pa lo hi co ad kr hT hB a x kz sk hz htr hhi hj hrb) q767 q769 qs6 q74 q770 (by decide +kernel) fT rfl rfl hl.1 rfl (Nat.le_of_ble_eq_true rfl) dJ21_put_2_216 ⟨Nat.le_of_ble_eq_true rfl, Nat.le_of_ble_eq_true rfl⟩ ⟨by show 0 + (1) ≤ 1; omega, by show 0 + (6) ≤ 6; omega⟩) hS (fun σ_31 H locs hP_30 hS => ?_)
                obtain ⟨rt', lf', rg', pa', lo', hi', co', ad', kr', g1, g2, g3, g4⟩ := hP_30
                refine lv_null C.1 C.2.1 dJ21_put_2_219 ?_
                refine W.widen (k := 1) (n := 6) (by omega) (by omega) ?_
                exact r_q (v := none) C hr (by first | exact Or.inl ⟨_, rfl⟩ | exact Or.inr ⟨_, rfl⟩) hlk hS ⟨n + 1, md + 1, rt', lf', rg', pa', lo', hi', co', ad', kr', g1, g2, g3, g4⟩ dJ21_put_2_220
              · skip
                exact absurd hc_28 (by decide)
            | some j =>
              have he_32 : σ (ad kz) = some (oO 16 [.ref (kr kz), .ref (X.2.2.2 1), va_rf ((lf kz).map ad), .ref (ad j), va_rf ((pa kz).map ad), .int (iI (co kz))]) := by have u := fz; rw [hj] at u; exact u
              obtain ⟨sj, pj, lj, hij⟩ := (hB.2.2.2.2.1 kz sk).1 j hj
              refine lv_aload C.1 C.2.1 dJ21_put_2_161 (lv_at hl 3 rfl) ?_
              refine gf_J21_114_16 C hS he_32 rfl dJ21_put_2_163 ?_
              refine lv_astore (lv' := [(4, .ref (ad j)), (5, .int (iI (1))), (6, .ref (ad kz)), (8, .ref (a)), (0, .ref (T)), (1, .ref (a)), (2, .ref (X.2.2.2 1)), (3, .int (iI (1)))]) C.1 C.2.1 dJ21_put_2_166 hl (by decide) rfl (fun ls hl => ?_)
              refine lv_goto (tgt := 196) C.1 C.2.1 dJ21_put_2_168 (by decide) ?_
              refine lv_aload C.1 C.2.1 dJ21_put_2_196 (lv_at hl 0 rfl) ?_
              refine lv_ifnonnull (tgt := 123) C.1 C.2.1 dJ21_put_2_198 (by decide) ?_
              exact ih_6 (ad j) j ⟨sj, rfl, by omega, by omega⟩ (by omega) _ _ _ hS (lv_sub hl [3, 0, 4, 5, 6, 7] rfl)
        · skip
          exact absurd hc_25 (by decide)
  exact loop_4 ((hi k0 - lo k0).toNat + 1) (ad k0) k0 ⟨sk0, rfl, by omega, by omega⟩ (by omega) _ _ _ hS (lv_sub hl [0, 2, 3, 4, 5, 6] rfl)

theorem TM.first {X : tl_X} {σ σ' : tl_H} {T q a : Nat} {n md N : Int} {ks : Option Nat} {S : Int → Prop} {lf rg pa : Int → Option Int} {lo hi co : Int → Int} {ad kr : Int → Nat} {x : Int} (h : TM X σ T n md ks S none lf rg pa co ad kr) (hB : BT N S none lf rg pa lo hi) (hz : σ a = some (cZ x)) (hx : -N < x ∧ x < N) (hq : σ q = none) (hf : tl_fix X σ') (eq : σ' = va_up (va_up σ q (some (cE a (X.2.2.2 1) none none none 1))) T (some (cT (some q) 1 (md + 1) ks))) : ∃ (n' md' : Int) (rt' : Option Int) (lf' rg' pa' : Int → Option Int) (lo' hi' co' : Int → Int) (ad' kr' : Int → Nat), TM X σ' T n' md' ks (fun z => z = x ∨ S z) rt' lf' rg' pa' co' ad' kr' ∧ BT N (fun z => z = x ∨ S z) rt' lf' rg' pa' lo' hi' ∧ TF X σ σ' ∧ ∀ k, rt' = some k → co' k = 1 := by
  have hSS : (fun z => z = x ∨ S z) = (fun z => z = x) := by
    funext z
    exact propext ⟨fun h => h.elim id (fun u => absurd u (hB.2.2.2.2.2.2.2 rfl z)), Or.inl⟩
  rw [hSS]
  have hqT : q ≠ T := fun z => by rw [z, h.1] at hq; cases hq
  refine ⟨1, md + 1, some x, (fun _ => none), (fun _ => none), (fun _ => none), (fun _ => -N), (fun _ => N), (fun _ => 1), fup ad x q, fup kr x a, ⟨?_, fun k hk => ⟨?_, ?_, Or.inr rfl⟩, fun j k hj hk _ => hj.trans hk.symm⟩, BT.one hx.1 hx.2, ⟨hf, fun b e hb hn => ?_⟩, fun _ _ => rfl⟩
  · rw [eq, up_s, show (some x).map (fup ad x q) = some q from congrArg some fup_s]
  · have hk : k = x := hk
    subst hk
    rw [fup_s, fup_s, eq, up_n hqT, up_s]
    rfl
  · have hk : k = x := hk
    subst hk
    rw [fup_s, eq, up_n (tl_ne hz h.1 (by decide))]
    exact up_old hq hz
  · rw [eq, up_n (nct_ne hb hn h.1 (Or.inl rfl))]
    exact up_old hq hb
set_option maxHeartbeats 4000000 in
theorem m_put2n (l : Launch) (X : tl_X) (σ : tl_H) (T : Nat) (n md : Int) (ks : Option Nat) (N : Int) (S : Int → Prop) (rt : Option Int) (lf rg pa : Int → Option Int) (lo hi co : Int → Int) (ad kr : Int → Nat) (hT : TM X σ T n md ks S rt lf rg pa co ad kr) (hB : BT N S rt lf rg pa lo hi) (a : Nat) (x : Int) (hz : σ a = some (cZ x)) (hx : -N < x ∧ x < N) (hN : N ≤ 1000000) (hrb : ∀ k, rt = some k → co k = 1) (hk0 : rt = none) : tl_Met l X yJ21_put_2 cJ21_put_2 10 ((Option.some (FieldType.object "java/lang/Object"))) 6 (1) (6) [.ref (T), .ref (a), .ref (X.2.2.2 1), .int (iI (1))] σ (tl_Qq X (fun r σ' => ∃ (n' md' : Int) (rt' : Option Int) (lf' rg' pa' : Int → Option Int) (lo' hi' co' : Int → Int) (ad' kr' : Int → Nat), TM X σ' T n' md' ks (fun z => z = x ∨ S z) rt' lf' rg' pa' co' ad' kr' ∧ BT N (fun z => z = x ∨ S z) rt' lf' rg' pa' lo' hi' ∧ TF X σ σ' ∧ ∀ k, rt' = some k → co' k = 1)) := by
  have hT0 : σ T = some (cT none n md ks) := by rw [hT.1, hk0]; rfl
  have fT : σ T = some (oO 13 [.null, .null, .null, .null, .int (iI (n)), .int (iI (md)), .null, va_rf (ks), .null]) := hT0
  refine tl_start (by decide) (Nat.le_of_ble_eq_true rfl) (fun p e s m below meth c ls C hr hml hlk hnm hS hl => ?_)
  have hl : lv_has ls 10 [(0, .ref (T)), (1, .ref (a)), (2, .ref (X.2.2.2 1)), (3, .int (iI (1)))] := hl
  refine lv_aload_n C.1 C.2.1 dJ21_put_2_0 rfl (lv_at hl 0 rfl) ?_
  refine gf_J21_101_13 C hS fT rfl dJ21_put_2_1 ?_
  refine lv_astoreN (lv' := [(4, .null), (0, .ref (T)), (1, .ref (a)), (2, .ref (X.2.2.2 1)), (3, .int (iI (1)))]) C.1 C.2.1 dJ21_put_2_4 hl (by decide) rfl (fun ls hl => ?_)
  refine lv_aloadN C.1 C.2.1 dJ21_put_2_6 (lv_at hl 0 rfl) ?_
  refine lv_ifnonnullN C.1 C.2.1 dJ21_put_2_8 ?_
  refine lv_aload_n C.1 C.2.1 dJ21_put_2_11 rfl (lv_at hl 1 rfl) ?_
  refine lv_aload_n C.1 C.2.1 dJ21_put_2_12 rfl (lv_at hl 2 rfl) ?_
  refine lv_aload_n C.1 C.2.1 dJ21_put_2_13 rfl (lv_at hl 3 rfl) ?_
  refine tl_cv (t_V (n := 2) (ci := 13) C hml hS (m_TM_addFirst l X σ T a (X.2.2.2 1) n md ks x (by omega) hT0 hz) q493 q495 qs5 q74 q496 (by decide +kernel) fT rfl rfl hl.1 rfl (Nat.le_of_ble_eq_true rfl) dJ21_put_2_14 ⟨Nat.le_of_ble_eq_true rfl, Nat.le_of_ble_eq_true rfl⟩ ⟨by show 0 + (1) ≤ 1; omega, by show 0 + (6) ≤ 6; omega⟩) hS (fun σ_3 H locs hP_2 hS => ?_)
  obtain ⟨q, hq, hqB, eq⟩ := hP_2
  refine lv_null C.1 C.2.1 dJ21_put_2_17 ?_
  refine W.widen (k := 1) (n := 6) (by omega) (by omega) ?_
  exact r_q (v := none) C hr (by first | exact Or.inl ⟨_, rfl⟩ | exact Or.inr ⟨_, rfl⟩) hlk hS (TM.first (hk0 ▸ hT) (hk0 ▸ hB) hz hx hq hS.fix eq) dJ21_put_2_18

set_option maxHeartbeats 4000000 in
theorem m_put_s (l : Launch) (X : tl_X) (σ : tl_H) (T : Nat) (n md : Int) (ks : Option Nat) (N : Int) (S : Int → Prop) (rt : Option Int) (lf rg pa : Int → Option Int) (lo hi co : Int → Int) (ad kr : Int → Nat) (hT : TM X σ T n md ks S rt lf rg pa co ad kr) (hB : BT N S rt lf rg pa lo hi) (a : Nat) (x : Int) (hz : σ a = some (cZ x)) (hx : -N < x ∧ x < N) (hN : N ≤ 1000000) (hrb : ∀ k, rt = some k → co k = 1) (k0 : Int) (hk0 : rt = some k0) : tl_Met l X yJ21_put cJ21_put 3 ((Option.some (FieldType.object "java/lang/Object"))) 7 (1) (6) [.ref (T), .ref (a), .ref (X.2.2.2 1)] σ (tl_Qq X (fun r σ' => ∃ (n' md' : Int) (rt' : Option Int) (lf' rg' pa' : Int → Option Int) (lo' hi' co' : Int → Int) (ad' kr' : Int → Nat), TM X σ' T n' md' ks (fun z => z = x ∨ S z) rt' lf' rg' pa' co' ad' kr' ∧ BT N (fun z => z = x ∨ S z) rt' lf' rg' pa' lo' hi' ∧ TF X σ σ' ∧ ∀ k, rt' = some k → co' k = 1)) := by
  refine tl_start (by decide) (Nat.le_of_ble_eq_true rfl) (fun p e s m below meth c ls C hr hml hlk hnm hS hl => ?_)
  have hl : lv_has ls 3 [(0, .ref (T)), (1, .ref (a)), (2, .ref (X.2.2.2 1))] := hl
  refine lv_aload_n C.1 C.2.1 dJ21_put_0 rfl (lv_at hl 0 rfl) ?_
  refine lv_aload_n C.1 C.2.1 dJ21_put_1 rfl (lv_at hl 1 rfl) ?_
  refine lv_aload_n C.1 C.2.1 dJ21_put_2 rfl (lv_at hl 2 rfl) ?_
  refine ti_const C.1 C.2.1 dJ21_put_3 ?_
  refine tl_cq (t_V (n := 3) (ci := 13) C hml hS (m_put2s l X σ T n md ks N S rt lf rg pa lo hi co ad kr hT hB a x hz hx hN hrb k0 hk0) q489 q491 qs4 q74 q492 (by decide +kernel) hT.1 rfl rfl hl.1 rfl (Nat.le_of_ble_eq_true rfl) dJ21_put_4 ⟨Nat.le_of_ble_eq_true rfl, Nat.le_of_ble_eq_true rfl⟩ ⟨by show 0 + (1) ≤ 1; omega, by show 0 + (6) ≤ 6; omega⟩) hS (fun r_1 σ_3 H locs hP_2 hS => ?_)
  refine W.widen (k := 1) (n := 6) (by omega) (by omega) ?_
  exact r_q (v := (r_1)) C hr (by first | exact Or.inl ⟨_, rfl⟩ | exact Or.inr ⟨_, rfl⟩) hlk hS hP_2 dJ21_put_7

set_option maxHeartbeats 4000000 in
theorem m_put_n (l : Launch) (X : tl_X) (σ : tl_H) (T : Nat) (n md : Int) (ks : Option Nat) (N : Int) (S : Int → Prop) (rt : Option Int) (lf rg pa : Int → Option Int) (lo hi co : Int → Int) (ad kr : Int → Nat) (hT : TM X σ T n md ks S rt lf rg pa co ad kr) (hB : BT N S rt lf rg pa lo hi) (a : Nat) (x : Int) (hz : σ a = some (cZ x)) (hx : -N < x ∧ x < N) (hN : N ≤ 1000000) (hrb : ∀ k, rt = some k → co k = 1) (hk0 : rt = none) : tl_Met l X yJ21_put cJ21_put 3 ((Option.some (FieldType.object "java/lang/Object"))) 7 (1) (6) [.ref (T), .ref (a), .ref (X.2.2.2 1)] σ (tl_Qq X (fun r σ' => ∃ (n' md' : Int) (rt' : Option Int) (lf' rg' pa' : Int → Option Int) (lo' hi' co' : Int → Int) (ad' kr' : Int → Nat), TM X σ' T n' md' ks (fun z => z = x ∨ S z) rt' lf' rg' pa' co' ad' kr' ∧ BT N (fun z => z = x ∨ S z) rt' lf' rg' pa' lo' hi' ∧ TF X σ σ' ∧ ∀ k, rt' = some k → co' k = 1)) := by
  refine tl_start (by decide) (Nat.le_of_ble_eq_true rfl) (fun p e s m below meth c ls C hr hml hlk hnm hS hl => ?_)
  have hl : lv_has ls 3 [(0, .ref (T)), (1, .ref (a)), (2, .ref (X.2.2.2 1))] := hl
  refine lv_aload_n C.1 C.2.1 dJ21_put_0 rfl (lv_at hl 0 rfl) ?_
  refine lv_aload_n C.1 C.2.1 dJ21_put_1 rfl (lv_at hl 1 rfl) ?_
  refine lv_aload_n C.1 C.2.1 dJ21_put_2 rfl (lv_at hl 2 rfl) ?_
  refine ti_const C.1 C.2.1 dJ21_put_3 ?_
  refine tl_cq (t_V (n := 3) (ci := 13) C hml hS (m_put2n l X σ T n md ks N S rt lf rg pa lo hi co ad kr hT hB a x hz hx hN hrb hk0) q489 q491 qs4 q74 q492 (by decide +kernel) hT.1 rfl rfl hl.1 rfl (Nat.le_of_ble_eq_true rfl) dJ21_put_4 ⟨Nat.le_of_ble_eq_true rfl, Nat.le_of_ble_eq_true rfl⟩ ⟨by show 0 + (1) ≤ 1; omega, by show 0 + (6) ≤ 6; omega⟩) hS (fun r_1 σ_3 H locs hP_2 hS => ?_)
  refine W.widen (k := 1) (n := 6) (by omega) (by omega) ?_
  exact r_q (v := (r_1)) C hr (by first | exact Or.inl ⟨_, rfl⟩ | exact Or.inr ⟨_, rfl⟩) hlk hS hP_2 dJ21_put_7

theorem m_put (l : Launch) (X : tl_X) (σ : tl_H) (T : Nat) (n md : Int) (ks : Option Nat) (N : Int) (S : Int → Prop) (rt : Option Int) (lf rg pa : Int → Option Int) (lo hi co : Int → Int) (ad kr : Int → Nat) (hT : TM X σ T n md ks S rt lf rg pa co ad kr) (hB : BT N S rt lf rg pa lo hi) (a : Nat) (x : Int) (hz : σ a = some (cZ x)) (hx : -N < x ∧ x < N) (hN : N ≤ 1000000) (hrb : ∀ k, rt = some k → co k = 1) : tl_Met l X yJ21_put cJ21_put 3 ((Option.some (FieldType.object "java/lang/Object"))) 7 (1) (6) [.ref (T), .ref (a), .ref (X.2.2.2 1)] σ (tl_Qq X (fun r σ' => ∃ (n' md' : Int) (rt' : Option Int) (lf' rg' pa' : Int → Option Int) (lo' hi' co' : Int → Int) (ad' kr' : Int → Nat), TM X σ' T n' md' ks (fun z => z = x ∨ S z) rt' lf' rg' pa' co' ad' kr' ∧ BT N (fun z => z = x ∨ S z) rt' lf' rg' pa' lo' hi' ∧ TF X σ σ' ∧ ∀ k, rt' = some k → co' k = 1)) := by
  cases hk0 : rt with
  | none => exact m_put_n l X σ T n md ks N S rt lf rg pa lo hi co ad kr hT hB a x hz hx hN hrb hk0
  | some k0 => exact m_put_s l X σ T n md ks N S rt lf rg pa lo hi co ad kr hT hB a x hz hx hN hrb k0 hk0

set_option maxHeartbeats 4000000 in
theorem m_TS_add (l : Launch) (X : tl_X) (σ : tl_H) (T : Nat) (n md : Int) (ks : Option Nat) (N : Int) (S : Int → Prop) (rt : Option Int) (lf rg pa : Int → Option Int) (lo hi co : Int → Int) (ad kr : Int → Nat) (hT : TM X σ T n md ks S rt lf rg pa co ad kr) (hB : BT N S rt lf rg pa lo hi) (a : Nat) (x : Int) (hz : σ a = some (cZ x)) (hx : -N < x ∧ x < N) (hN : N ≤ 1000000) (hrb : ∀ k, rt = some k → co k = 1) (ts : Nat) (hts : σ ts = some (oO 14 [.ref T])) : tl_Met l X yJ23_add cJ23_add 2 ((Option.some FieldType.boolean)) 8 (1) (6) [.ref (ts), .ref (a)] σ (tl_Qi X (fun r σ' => ∃ (n' md' : Int) (rt' : Option Int) (lf' rg' pa' : Int → Option Int) (lo' hi' co' : Int → Int) (ad' kr' : Int → Nat), TM X σ' T n' md' ks (fun z => z = x ∨ S z) rt' lf' rg' pa' co' ad' kr' ∧ BT N (fun z => z = x ∨ S z) rt' lf' rg' pa' lo' hi' ∧ TF X σ σ' ∧ ∀ k, rt' = some k → co' k = 1)) := by
  refine tl_start (by decide) (Nat.le_of_ble_eq_true rfl) (fun p e s m below meth c ls C hr hml hlk hnm hS hl => ?_)
  have hl : lv_has ls 2 [(0, .ref (ts)), (1, .ref (a))] := hl
  refine lv_aload_n C.1 C.2.1 dJ23_add_0 rfl (lv_at hl 0 rfl) ?_
  refine gf_J23_7_14 C hS hts rfl dJ23_add_1 ?_
  refine lv_aload_n C.1 C.2.1 dJ23_add_4 rfl (lv_at hl 1 rfl) ?_
  refine h_gets C hS C.2.2.2.2.2.2.2.1 q478 rfl dJ23_add_5 ?_
  refine tl_cFq (t_N (d := 7) (mc := 1) (ms := 6) C hml hS (m_put l X σ T n md ks N S rt lf rg pa lo hi co ad kr hT hB a x hz hx hN hrb) q488 q74 hT.1 rfl hl.1 rfl (Nat.le_of_ble_eq_true rfl) dJ23_add_8 ⟨Nat.le_of_ble_eq_true rfl, Nat.le_of_ble_eq_true rfl⟩ ⟨by show 0 + 1 ≤ 1; omega, by show 0 + 6 ≤ 6; omega⟩) hS (fun rr σ1 H locs hP hS => ?_)
  refine vq_ifnonnull (tgt := 20) C.1 C.2.1 dJ23_add_13 (by decide) (fun av_2 hn_1 => ?_) (fun hn_1 => ?_)
  · skip
    refine ti_const C.1 C.2.1 dJ23_add_20 ?_
    refine W.widen (k := 1) (n := 6) (by omega) (by omega) ?_
    exact r_z (z := 0) C hr hlk hS (by first | exact tb01 _ | omega | decide) hP dJ23_add_21
  · skip
    refine ti_const C.1 C.2.1 dJ23_add_16 ?_
    refine lv_goto (tgt := 21) C.1 C.2.1 dJ23_add_17 (by decide) ?_
    refine W.widen (k := 1) (n := 6) (by omega) (by omega) ?_
    exact r_z (z := 1) C hr hlk hS (by first | exact tb01 _ | omega | decide) hP dJ23_add_21

