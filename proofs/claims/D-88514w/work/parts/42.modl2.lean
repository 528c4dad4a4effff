/-! MODULE TankFieldModel, part 2: hits, clocks, downs -/
set_option maxRecDepth 100000
def pm_kind (ar : Nat → Nat → Int32) (h : Nat) : Int32 := if 255 ≤ ar 8 h then (if 0 ≤ ar 9 h then (if 255 ≤ ar 9 h then 3 else 1) else 2) else 0
def pm_amt (ar : Nat → Nat → Int32) (h : Nat) : Int32 := if pm_kind ar h = 1 then 16 * ar 9 h else if pm_kind ar h = 3 then 4080 else ar 8 h
/-- the right time by the first k clocks -/
def pm_rightL (ar : Nat → Nat → Int32) (h : Nat) : Nat → Int32
  | 0 => ar 7 h
  | k + 1 => if ar 11 k = ar 6 h then (if ar 7 h < ar 12 k then pm_rightL ar h k else ar 7 h - ar 13 k) else pm_rightL ar h k
/-- the latest end of the downs that hold at a time, of the first k -/
def pm_dutL (ar : Nat → Nat → Int32) (tank time : Int32) : Nat → Int32
  | 0 => -9
  | k + 1 => if ar 15 k = tank then (if time < ar 16 k then pm_dutL ar tank time k else if ar 17 k ≤ time then pm_dutL ar tank time k else if ar 17 k ≤ pm_dutL ar tank time k then pm_dutL ar tank time k else ar 17 k) else pm_dutL ar tank time k
def pm_look (ar : Nat → Nat → Int32) (nd h : Nat) : Bool := decide (pm_dutL ar (ar 6 h) (ar 7 h) nd = -9)

set_option maxHeartbeats 4000000 in
set_option maxRecDepth 100000 in
theorem metX2_kindOf {l : Launch} {S0 : State} {D : va_G} {dA : Nat → ClassId} (hB : tf_B S0 D dA) {sz : Nat} {G : tf_Pic} {mm : Nat} {ad : Nat → Nat} {iv : Nat → Int32} {ar : Nat → Nat → Int32} {fr : Nat → Int64} (hm : mo_W dA mm ad iv ar fr G) {h : Nat} (hh : h < 240) : Met l yX2_kindOf (ws_ yX2_kindOf cX2_kindOf 2 (some .int)) (tf_rm 1 0 0) (tf_Pc S0 D sz G [.ref mm, .int (nI h)]) (tf_Qi S0 D sz G (fun r G1 => r = pm_kind ar h ∧ G1 = G)) 0 0 (tf_A G sz) := by
  refine Met.ofW (cc := cX2_kindOf) (maxL := 2) (ret := (some .int)) (by decide) rfl ?_
  intro p e s m args below meth c s₁ B hml hv
  obtain ⟨C, hw, hr, hlk, hin, hargs⟩ := tf_enter hB B hml hv
  subst hargs
  have C : tf_C p s m ([.ref mm, .int (nI h)] : List Value).toArray c cX2_kindOf 2 RX2 S0 D dA := C
  have hx := C.hx
  have hb := C.hb
  change W p l e (tf_rm 1 0 0) s m ([.ref mm, .int (nI h)] : List Value).toArray below meth c s.heap [] 0 0 (MQ below (tf_Qi S0 D sz G (fun r G1 => r = pm_kind ar h ∧ G1 = G)) ([.ref mm, .int (nI h)] : List Value).toArray s 0 0 (tf_A G sz)) (entryFrame m ([.ref mm, .int (nI h)] : List Value).toArray 2)
  refine tf_start [.ref mm, .int (nI h)] (Nat.le_of_ble_eq_true rfl) (fun ls hl => ?_)
  have hl : lv_has ls 2 [(0, .ref mm), (1, .int (nI h))] := hl
  refine lv_aload_n hx hb dX2_kindOf_0 rfl (lv_at hl 0 rfl) ?_
  refine gf_X2_22 C hw hm.1 (v := .ref (ad 8)) rfl dX2_kindOf_1 ?_
  refine lv_iload_n hx hb dX2_kindOf_4 rfl (lv_at hl 1 rfl) ?_
  refine mo_ald (v := ar 8 h) C hw hm 8 (by decide) (by decide) h rfl (show h < 240 by omega) rfl dX2_kindOf_5 ?_
  refine lv_sipush (v := 255) hx hb dX2_kindOf_6 (by decide) ?_
  refine lv_icmp_ge (tgt := 14) hx hb dX2_kindOf_9 (by decide) (fun c9 => ?_) (fun c9 => ?_)
  · refine lv_aload_n hx hb dX2_kindOf_14 rfl (lv_at hl 0 rfl) ?_
    refine gf_X2_25 C hw hm.1 (v := .ref (ad 9)) rfl dX2_kindOf_15 ?_
    refine lv_iload_n hx hb dX2_kindOf_18 rfl (lv_at hl 1 rfl) ?_
    refine mo_ald (v := ar 9 h) C hw hm 9 (by decide) (by decide) h rfl (show h < 240 by omega) rfl dX2_kindOf_19 ?_
    refine lv_if_ge (tgt := 27) hx hb dX2_kindOf_20 (by decide) (fun c20 => ?_) (fun c20 => ?_)
    · refine lv_aload_n hx hb dX2_kindOf_27 rfl (lv_at hl 0 rfl) ?_
      refine gf_X2_25 C hw hm.1 (v := .ref (ad 9)) rfl dX2_kindOf_28 ?_
      refine lv_iload_n hx hb dX2_kindOf_31 rfl (lv_at hl 1 rfl) ?_
      refine mo_ald (v := ar 9 h) C hw hm 9 (by decide) (by decide) h rfl (show h < 240 by omega) rfl dX2_kindOf_32 ?_
      refine lv_sipush (v := 255) hx hb dX2_kindOf_33 (by decide) ?_
      refine lv_icmp_ge (tgt := 43) hx hb dX2_kindOf_36 (by decide) (fun c36 => ?_) (fun c36 => ?_)
      · refine lv_iconst (v := 3) hx hb dX2_kindOf_43 (by decide) ?_
        exact tf_reti C hw hr hlk dX2_kindOf_44 (by first | exact Nat.le_of_ble_eq_true rfl | omega) (by first | exact Nat.le_of_ble_eq_true rfl | omega) (by refine ⟨?_, rfl⟩; simp [pm_kind, c9, c20, c36])
      · refine lv_iconst (v := 1) hx hb dX2_kindOf_39 (by decide) ?_
        refine lv_goto (tgt := 44) hx hb dX2_kindOf_40 (by decide) ?_
        exact tf_reti C hw hr hlk dX2_kindOf_44 (by first | exact Nat.le_of_ble_eq_true rfl | omega) (by first | exact Nat.le_of_ble_eq_true rfl | omega) (by refine ⟨?_, rfl⟩; simp [pm_kind, c9, c20, c36])
    · refine lv_iconst (v := 2) hx hb dX2_kindOf_23 (by decide) ?_
      refine lv_goto (tgt := 44) hx hb dX2_kindOf_24 (by decide) ?_
      exact tf_reti C hw hr hlk dX2_kindOf_44 (by first | exact Nat.le_of_ble_eq_true rfl | omega) (by first | exact Nat.le_of_ble_eq_true rfl | omega) (by refine ⟨?_, rfl⟩; simp [pm_kind, c9, c20])
  · refine lv_iconst (v := 0) hx hb dX2_kindOf_12 (by decide) ?_
    exact tf_reti C hw hr hlk dX2_kindOf_13 (by first | exact Nat.le_of_ble_eq_true rfl | omega) (by first | exact Nat.le_of_ble_eq_true rfl | omega) (by refine ⟨?_, rfl⟩; simp [pm_kind, c9])

set_option maxHeartbeats 4000000 in
set_option maxRecDepth 100000 in
theorem metX2_amountOf {l : Launch} {S0 : State} {D : va_G} {dA : Nat → ClassId} (hB : tf_B S0 D dA) {sz : Nat} {G : tf_Pic} {mm : Nat} {ad : Nat → Nat} {iv : Nat → Int32} {ar : Nat → Nat → Int32} {fr : Nat → Int64} (hm : mo_W dA mm ad iv ar fr G) {h : Nat} (hh : h < 240) : Met l yX2_amountOf (ws_ yX2_amountOf cX2_amountOf 2 (some .int)) (tf_rm 2 0 0) (tf_Pc S0 D sz G [.ref mm, .int (nI h)]) (tf_Qi S0 D sz G (fun r G1 => r = pm_amt ar h ∧ G1 = G)) 0 0 (tf_A G sz) := by
  refine Met.ofW (cc := cX2_amountOf) (maxL := 2) (ret := (some .int)) (by decide) rfl ?_
  intro p e s m args below meth c s₁ B hml hv
  obtain ⟨C, hw, hr, hlk, hin, hargs⟩ := tf_enter hB B hml hv
  subst hargs
  have C : tf_C p s m ([.ref mm, .int (nI h)] : List Value).toArray c cX2_amountOf 2 RX2 S0 D dA := C
  have hx := C.hx
  have hb := C.hb
  change W p l e (tf_rm 2 0 0) s m ([.ref mm, .int (nI h)] : List Value).toArray below meth c s.heap [] 0 0 (MQ below (tf_Qi S0 D sz G (fun r G1 => r = pm_amt ar h ∧ G1 = G)) ([.ref mm, .int (nI h)] : List Value).toArray s 0 0 (tf_A G sz)) (entryFrame m ([.ref mm, .int (nI h)] : List Value).toArray 2)
  refine tf_start [.ref mm, .int (nI h)] (Nat.le_of_ble_eq_true rfl) (fun ls hl => ?_)
  have hl : lv_has ls 2 [(0, .ref mm), (1, .int (nI h))] := hl
  refine lv_aload_n hx hb dX2_amountOf_0 rfl (lv_at hl 0 rfl) ?_
  refine lv_iload_n hx hb dX2_amountOf_1 rfl (lv_at hl 1 rfl) ?_
  refine tf_goi (tf_V (n := 1) C hw hm.1 rfl [.int (nI h)] (metX2_kindOf hB hm (h := h) (by omega)) (lw_V q1112 q1114 qs27 q45 q1115) rfl ⟨by decide, by decide, by decide +kernel⟩ ⟨rfl, rfl, Nat.le_of_ble_eq_true rfl, Nat.le_of_ble_eq_true rfl, (by first | exact Nat.le_of_ble_eq_true rfl | (show _ ≤ 0; omega)), (by first | exact Nat.le_of_ble_eq_true rfl | (show _ ≤ 0; omega))⟩ rfl hl rfl (Nat.le_of_ble_eq_true rfl) dX2_amountOf_2) hw (fun r1 G1 H locs hp1 hw => ?_)
  obtain ⟨hre, hGe⟩ := hp1
  have hre : r1 = pm_kind ar h := hre
  obtain rfl := hre.symm
  obtain rfl := hGe.symm
  refine lv_iconst (v := 1) hx hb dX2_amountOf_5 (by decide) ?_
  refine lv_icmp_ne (tgt := 21) hx hb dX2_amountOf_6 (by decide) (fun c6 => ?_) (fun c6 => ?_)
  · refine lv_aload_n hx hb dX2_amountOf_21 rfl (lv_at hl 0 rfl) ?_
    refine lv_iload_n hx hb dX2_amountOf_22 rfl (lv_at hl 1 rfl) ?_
    refine tf_goi (tf_V (n := 1) C hw hm.1 rfl [.int (nI h)] (metX2_kindOf hB hm (h := h) (by omega)) (lw_V q1112 q1114 qs27 q45 q1115) rfl ⟨by decide, by decide, by decide +kernel⟩ ⟨rfl, rfl, Nat.le_of_ble_eq_true rfl, Nat.le_of_ble_eq_true rfl, (by first | exact Nat.le_of_ble_eq_true rfl | (show _ ≤ 0; omega)), (by first | exact Nat.le_of_ble_eq_true rfl | (show _ ≤ 0; omega))⟩ rfl hl rfl (Nat.le_of_ble_eq_true rfl) dX2_amountOf_23) hw (fun r2 G2 H locs hp2 hw => ?_)
    obtain ⟨hre, hGe⟩ := hp2
    have hre : r2 = pm_kind ar h := hre
    obtain rfl := hre.symm
    obtain rfl := hGe.symm
    refine lv_iconst (v := 3) hx hb dX2_amountOf_26 (by decide) ?_
    refine lv_icmp_ne (tgt := 36) hx hb dX2_amountOf_27 (by decide) (fun c27 => ?_) (fun c27 => ?_)
    · refine lv_aload_n hx hb dX2_amountOf_36 rfl (lv_at hl 0 rfl) ?_
      refine gf_X2_22 C hw hm.1 (v := .ref (ad 8)) rfl dX2_amountOf_37 ?_
      refine lv_iload_n hx hb dX2_amountOf_40 rfl (lv_at hl 1 rfl) ?_
      refine mo_ald (v := ar 8 h) C hw hm 8 (by decide) (by decide) h rfl (show h < 240 by omega) rfl dX2_amountOf_41 ?_
      exact tf_reti C hw hr hlk dX2_amountOf_42 (by first | exact Nat.le_of_ble_eq_true rfl | omega) (by first | exact Nat.le_of_ble_eq_true rfl | omega) (by refine ⟨?_, rfl⟩; simp [pm_amt, c6, c27])
    · refine lv_sipush (v := 4080) hx hb dX2_amountOf_30 (by decide) ?_
      refine lv_goto (tgt := 42) hx hb dX2_amountOf_33 (by decide) ?_
      exact tf_reti C hw hr hlk dX2_amountOf_42 (by first | exact Nat.le_of_ble_eq_true rfl | omega) (by first | exact Nat.le_of_ble_eq_true rfl | omega) (by refine ⟨?_, rfl⟩; simp [pm_amt, c6, c27])
  · refine lv_bipush (v := 16) hx hb dX2_amountOf_9 (by decide) ?_
    refine lv_aload_n hx hb dX2_amountOf_11 rfl (lv_at hl 0 rfl) ?_
    refine gf_X2_25 C hw hm.1 (v := .ref (ad 9)) rfl dX2_amountOf_12 ?_
    refine lv_iload_n hx hb dX2_amountOf_15 rfl (lv_at hl 1 rfl) ?_
    refine mo_ald (v := ar 9 h) C hw hm 9 (by decide) (by decide) h rfl (show h < 240 by omega) rfl dX2_amountOf_16 ?_
    refine lv_imul hx hb dX2_amountOf_17 ?_
    refine lv_goto (tgt := 42) hx hb dX2_amountOf_18 (by decide) ?_
    exact tf_reti C hw hr hlk dX2_amountOf_42 (by first | exact Nat.le_of_ble_eq_true rfl | omega) (by first | exact Nat.le_of_ble_eq_true rfl | omega) (by refine ⟨?_, rfl⟩; simp [pm_amt, c6])

set_option maxHeartbeats 4000000 in
set_option maxRecDepth 100000 in
theorem metX2_rightTime {l : Launch} {S0 : State} {D : va_G} {dA : Nat → ClassId} (hB : tf_B S0 D dA) {sz : Nat} {G : tf_Pic} {mm : Nat} {ad : Nat → Nat} {iv : Nat → Int32} {ar : Nat → Nat → Int32} {fr : Nat → Int64} (hm : mo_W dA mm ad iv ar fr G) {h : Nat} (hh : h < 240) {nc : Nat} (hk10 : iv 10 = nI nc) (hnc : nc ≤ 20) : Met l yX2_rightTime (ws_ yX2_rightTime cX2_rightTime 3 (some .int)) (tf_rm 1 0 0) (tf_Pc S0 D sz G [.ref mm, .int (nI h)]) (tf_Qi S0 D sz G (fun r G1 => r = pm_rightL ar h nc ∧ G1 = G)) 0 0 (tf_A G sz) := by
  refine Met.ofW (cc := cX2_rightTime) (maxL := 3) (ret := (some .int)) (by decide) rfl ?_
  intro p e s m args below meth c s₁ B hml hv
  obtain ⟨C, hw, hr, hlk, hin, hargs⟩ := tf_enter hB B hml hv
  subst hargs
  have C : tf_C p s m ([.ref mm, .int (nI h)] : List Value).toArray c cX2_rightTime 3 RX2 S0 D dA := C
  have hx := C.hx
  have hb := C.hb
  change W p l e (tf_rm 1 0 0) s m ([.ref mm, .int (nI h)] : List Value).toArray below meth c s.heap [] 0 0 (MQ below (tf_Qi S0 D sz G (fun r G1 => r = pm_rightL ar h nc ∧ G1 = G)) ([.ref mm, .int (nI h)] : List Value).toArray s 0 0 (tf_A G sz)) (entryFrame m ([.ref mm, .int (nI h)] : List Value).toArray 3)
  have b7 : ∀ (fuel : Nat) (k : Nat), k < fuel → (k ≤ nc) → (pm_rightL ar h nc = pm_rightL ar h k) → ∀ (H : Heap) (locs : List Loc), tf_Wd S0 D (tf_A G sz) s.heap G H locs → ∀ (ls : Array Slot), lv_has ls 3 [(2, .int (nI k - 1)), (0, .ref mm), (1, .int (nI h))] → W p l e (tf_rm 1 0 0) s m ([.ref mm, .int (nI h)] : List Value).toArray below meth c H locs 0 0 (MQ below (tf_Qi S0 D sz G (fun r G1 => r = pm_rightL ar h nc ∧ G1 = G)) ([.ref mm, .int (nI h)] : List Value).toArray s 0 0 (tf_A G sz)) (F0 m 7 ls []) := by
    intro fuel7
    induction fuel7 with
    | zero => intro k hfu7; exact absurd hfu7 (Nat.not_lt_zero _)
    | succ fuel7 ih7 =>
      intro k hfu7 hk he H locs hw ls hl
      refine lv_iload_n hx hb dX2_rightTime_7 rfl (lv_at hl 0 rfl) ?_
      refine lv_if_lt (tgt := 61) hx hb dX2_rightTime_8 (by decide) (fun c8 => ?_) (fun c8 => ?_)
      · refine lv_aload_n hx hb dX2_rightTime_61 rfl (lv_at hl 1 rfl) ?_
        refine gf_X2_19 C hw hm.1 (v := .ref (ad 7)) rfl dX2_rightTime_62 ?_
        refine lv_iload_n hx hb dX2_rightTime_65 rfl (lv_at hl 2 rfl) ?_
        refine mo_ald (v := ar 7 h) C hw hm 7 (by decide) (by decide) h rfl (show h < 240 by omega) rfl dX2_rightTime_66 ?_
        exact tf_reti C hw hr hlk dX2_rightTime_67 (by first | exact Nat.le_of_ble_eq_true rfl | omega) (by first | exact Nat.le_of_ble_eq_true rfl | omega) (by refine ⟨?_, rfl⟩; rw [he, tf_dec0 (by omega) c8]; rfl)
      · obtain ⟨j, hj⟩ := tf_dec1 c8
        subst hj
        rw [nI_pred] at hl
        refine lv_aload_n hx hb dX2_rightTime_11 rfl (lv_at hl 1 rfl) ?_
        refine gf_X2_28 C hw hm.1 (v := .ref (ad 11)) rfl dX2_rightTime_12 ?_
        refine lv_iload_n hx hb dX2_rightTime_15 rfl (lv_at hl 0 rfl) ?_
        refine mo_ald (v := ar 11 j) C hw hm 11 (by decide) (by decide) j rfl (show j < 20 by omega) rfl dX2_rightTime_16 ?_
        refine lv_aload_n hx hb dX2_rightTime_17 rfl (lv_at hl 1 rfl) ?_
        refine gf_X2_16 C hw hm.1 (v := .ref (ad 6)) rfl dX2_rightTime_18 ?_
        refine lv_iload_n hx hb dX2_rightTime_21 rfl (lv_at hl 2 rfl) ?_
        refine mo_ald (v := ar 6 h) C hw hm 6 (by decide) (by decide) h rfl (show h < 240 by omega) rfl dX2_rightTime_22 ?_
        refine lv_icmp_ne (tgt := 55) hx hb dX2_rightTime_23 (by decide) (fun c23 => ?_) (fun c23 => ?_)
        · refine lv_iinc (v := nI j - 1) (lv' := [(2, .int (nI j - 1)), (0, .ref mm), (1, .int (nI h))]) hx hb dX2_rightTime_55 hl (k := 0) rfl (tf_m1 j) (by decide) rfl (fun ls hl => ?_)
          refine lv_goto (tgt := 7) hx hb dX2_rightTime_58 (by decide) ?_
          exact ih7 j (by omega) (by omega) (by rw [he]; simp only [pm_rightL, if_neg c23]) _ _ hw ls hl
        · refine lv_aload_n hx hb dX2_rightTime_26 rfl (lv_at hl 1 rfl) ?_
          refine gf_X2_31 C hw hm.1 (v := .ref (ad 12)) rfl dX2_rightTime_27 ?_
          refine lv_iload_n hx hb dX2_rightTime_30 rfl (lv_at hl 0 rfl) ?_
          refine mo_ald (v := ar 12 j) C hw hm 12 (by decide) (by decide) j rfl (show j < 20 by omega) rfl dX2_rightTime_31 ?_
          refine lv_aload_n hx hb dX2_rightTime_32 rfl (lv_at hl 1 rfl) ?_
          refine gf_X2_19 C hw hm.1 (v := .ref (ad 7)) rfl dX2_rightTime_33 ?_
          refine lv_iload_n hx hb dX2_rightTime_36 rfl (lv_at hl 2 rfl) ?_
          refine mo_ald (v := ar 7 h) C hw hm 7 (by decide) (by decide) h rfl (show h < 240 by omega) rfl dX2_rightTime_37 ?_
          refine lv_icmp_gt (tgt := 55) hx hb dX2_rightTime_38 (by decide) (fun c38 => ?_) (fun c38 => ?_)
          · refine lv_iinc (v := nI j - 1) (lv' := [(2, .int (nI j - 1)), (0, .ref mm), (1, .int (nI h))]) hx hb dX2_rightTime_55 hl (k := 0) rfl (tf_m1 j) (by decide) rfl (fun ls hl => ?_)
            refine lv_goto (tgt := 7) hx hb dX2_rightTime_58 (by decide) ?_
            exact ih7 j (by omega) (by omega) (by rw [he]; simp only [pm_rightL, if_pos c23, if_pos c38]) _ _ hw ls hl
          · refine lv_aload_n hx hb dX2_rightTime_41 rfl (lv_at hl 1 rfl) ?_
            refine gf_X2_19 C hw hm.1 (v := .ref (ad 7)) rfl dX2_rightTime_42 ?_
            refine lv_iload_n hx hb dX2_rightTime_45 rfl (lv_at hl 2 rfl) ?_
            refine mo_ald (v := ar 7 h) C hw hm 7 (by decide) (by decide) h rfl (show h < 240 by omega) rfl dX2_rightTime_46 ?_
            refine lv_aload_n hx hb dX2_rightTime_47 rfl (lv_at hl 1 rfl) ?_
            refine gf_X2_34 C hw hm.1 (v := .ref (ad 13)) rfl dX2_rightTime_48 ?_
            refine lv_iload_n hx hb dX2_rightTime_51 rfl (lv_at hl 0 rfl) ?_
            refine mo_ald (v := ar 13 j) C hw hm 13 (by decide) (by decide) j rfl (show j < 20 by omega) rfl dX2_rightTime_52 ?_
            refine lv_isub hx hb dX2_rightTime_53 ?_
            exact tf_reti C hw hr hlk dX2_rightTime_54 (by first | exact Nat.le_of_ble_eq_true rfl | omega) (by first | exact Nat.le_of_ble_eq_true rfl | omega) (by refine ⟨?_, rfl⟩; rw [he]; simp only [pm_rightL, if_pos c23, if_neg c38])
  refine tf_start [.ref mm, .int (nI h)] (Nat.le_of_ble_eq_true rfl) (fun ls hl => ?_)
  have hl : lv_has ls 3 [(0, .ref mm), (1, .int (nI h))] := hl
  refine lv_aload_n hx hb dX2_rightTime_0 rfl (lv_at hl 0 rfl) ?_
  refine gf_X2_132 C hw hm.1 (v := .int (nI nc)) (by rw [← hk10]; rfl) dX2_rightTime_1 ?_
  refine lv_iconst (v := 1) hx hb dX2_rightTime_4 (by decide) ?_
  refine lv_isub hx hb dX2_rightTime_5 ?_
  refine lv_istore_n (lv' := [(2, .int ((nI nc) - 1)), (0, .ref mm), (1, .int (nI h))]) hx hb dX2_rightTime_6 rfl hl (by decide) rfl (fun ls hl => ?_)
  exact b7 (nc + 1) nc (by omega) (Nat.le_refl _) rfl _ _ hw ls hl

set_option maxHeartbeats 4000000 in
set_option maxRecDepth 100000 in
theorem metX2_downUpTo {l : Launch} {S0 : State} {D : va_G} {dA : Nat → ClassId} (hB : tf_B S0 D dA) {sz : Nat} {G : tf_Pic} {mm : Nat} {ad : Nat → Nat} {iv : Nat → Int32} {ar : Nat → Nat → Int32} {fr : Nat → Int64} (hm : mo_W dA mm ad iv ar fr G) {nd : Nat} (hk14 : iv 14 = nI nd) (hnd : nd ≤ 20) (tank time : Int32) : Met l yX2_downUpTo (ws_ yX2_downUpTo cX2_downUpTo 5 (some .int)) (tf_rm 1 0 0) (tf_Pc S0 D sz G [.ref mm, .int tank, .int time]) (tf_Qi S0 D sz G (fun r G1 => r = pm_dutL ar tank time nd ∧ G1 = G)) 0 0 (tf_A G sz) := by
  refine Met.ofW (cc := cX2_downUpTo) (maxL := 5) (ret := (some .int)) (by decide) rfl ?_
  intro p e s m args below meth c s₁ B hml hv
  obtain ⟨C, hw, hr, hlk, hin, hargs⟩ := tf_enter hB B hml hv
  subst hargs
  have C : tf_C p s m ([.ref mm, .int tank, .int time] : List Value).toArray c cX2_downUpTo 5 RX2 S0 D dA := C
  have hx := C.hx
  have hb := C.hb
  change W p l e (tf_rm 1 0 0) s m ([.ref mm, .int tank, .int time] : List Value).toArray below meth c s.heap [] 0 0 (MQ below (tf_Qi S0 D sz G (fun r G1 => r = pm_dutL ar tank time nd ∧ G1 = G)) ([.ref mm, .int tank, .int time] : List Value).toArray s 0 0 (tf_A G sz)) (entryFrame m ([.ref mm, .int tank, .int time] : List Value).toArray 5)
  have b6 : ∀ (fuel : Nat) (k : Nat), nd - k < fuel → (k ≤ nd) → ∀ (H : Heap) (locs : List Loc), tf_Wd S0 D (tf_A G sz) s.heap G H locs → ∀ (ls : Array Slot), lv_has ls 5 [(4, .int (nI k)), (3, .int (pm_dutL ar tank time k)), (0, .ref mm), (1, .int tank), (2, .int time)] → W p l e (tf_rm 1 0 0) s m ([.ref mm, .int tank, .int time] : List Value).toArray below meth c H locs 0 0 (MQ below (tf_Qi S0 D sz G (fun r G1 => r = pm_dutL ar tank time nd ∧ G1 = G)) ([.ref mm, .int tank, .int time] : List Value).toArray s 0 0 (tf_A G sz)) (F0 m 6 ls []) := by
    intro fuel6
    induction fuel6 with
    | zero => intro k hfu6; exact absurd hfu6 (Nat.not_lt_zero _)
    | succ fuel6 ih6 =>
      intro k hfu6 hk H locs hw ls hl
      refine lv_iload hx hb dX2_downUpTo_6 (lv_at hl 0 rfl) ?_
      refine lv_aload_n hx hb dX2_downUpTo_8 rfl (lv_at hl 2 rfl) ?_
      refine gf_X2_135 C hw hm.1 (v := .int (nI nd)) (by rw [← hk14]; rfl) dX2_downUpTo_9 ?_
      refine tf_icmp_geN hx hb k nd rfl rfl (tgt := 73) dX2_downUpTo_12 (by decide) (by omega) (by omega) (fun c12 => ?_) (fun c12 => ?_)
      · refine lv_iload_n hx hb dX2_downUpTo_73 rfl (lv_at hl 1 rfl) ?_
        exact tf_reti C hw hr hlk dX2_downUpTo_74 (by first | exact Nat.le_of_ble_eq_true rfl | omega) (by first | exact Nat.le_of_ble_eq_true rfl | omega) (by refine ⟨?_, rfl⟩; rw [show k = nd by omega])
      · refine lv_aload_n hx hb dX2_downUpTo_15 rfl (lv_at hl 2 rfl) ?_
        refine gf_X2_37 C hw hm.1 (v := .ref (ad 15)) rfl dX2_downUpTo_16 ?_
        refine lv_iload hx hb dX2_downUpTo_19 (lv_at hl 0 rfl) ?_
        refine mo_ald (v := ar 15 k) C hw hm 15 (by decide) (by decide) k rfl (show k < 20 by omega) rfl dX2_downUpTo_21 ?_
        refine lv_iload_n hx hb dX2_downUpTo_22 rfl (lv_at hl 3 rfl) ?_
        refine lv_icmp_ne (tgt := 67) hx hb dX2_downUpTo_23 (by decide) (fun c23 => ?_) (fun c23 => ?_)
        · rw [show (pm_dutL ar tank time k : Int32) = pm_dutL ar tank time (k + 1) by simp only [pm_dutL, if_neg c23]] at hl
          refine lv_iinc (v := nI (k + 1)) (lv' := [(4, .int (nI (k + 1))), (3, .int (pm_dutL ar tank time (k + 1))), (0, .ref mm), (1, .int tank), (2, .int time)]) hx hb dX2_downUpTo_67 hl (k := 0) rfl (nI_1 _) (by decide) rfl (fun ls hl => ?_)
          refine lv_goto (tgt := 6) hx hb dX2_downUpTo_70 (by decide) ?_
          exact ih6 (k + 1) (by omega) (by omega) _ _ hw ls hl
        · refine lv_iload_n hx hb dX2_downUpTo_26 rfl (lv_at hl 4 rfl) ?_
          refine lv_aload_n hx hb dX2_downUpTo_27 rfl (lv_at hl 2 rfl) ?_
          refine gf_X2_40 C hw hm.1 (v := .ref (ad 16)) rfl dX2_downUpTo_28 ?_
          refine lv_iload hx hb dX2_downUpTo_31 (lv_at hl 0 rfl) ?_
          refine mo_ald (v := ar 16 k) C hw hm 16 (by decide) (by decide) k rfl (show k < 20 by omega) rfl dX2_downUpTo_33 ?_
          refine lv_icmp_lt (tgt := 67) hx hb dX2_downUpTo_34 (by decide) (fun c34 => ?_) (fun c34 => ?_)
          · rw [show (pm_dutL ar tank time k : Int32) = pm_dutL ar tank time (k + 1) by simp only [pm_dutL, if_pos c23, if_pos c34]] at hl
            refine lv_iinc (v := nI (k + 1)) (lv' := [(4, .int (nI (k + 1))), (3, .int (pm_dutL ar tank time (k + 1))), (0, .ref mm), (1, .int tank), (2, .int time)]) hx hb dX2_downUpTo_67 hl (k := 0) rfl (nI_1 _) (by decide) rfl (fun ls hl => ?_)
            refine lv_goto (tgt := 6) hx hb dX2_downUpTo_70 (by decide) ?_
            exact ih6 (k + 1) (by omega) (by omega) _ _ hw ls hl
          · refine lv_iload_n hx hb dX2_downUpTo_37 rfl (lv_at hl 4 rfl) ?_
            refine lv_aload_n hx hb dX2_downUpTo_38 rfl (lv_at hl 2 rfl) ?_
            refine gf_X2_43 C hw hm.1 (v := .ref (ad 17)) rfl dX2_downUpTo_39 ?_
            refine lv_iload hx hb dX2_downUpTo_42 (lv_at hl 0 rfl) ?_
            refine mo_ald (v := ar 17 k) C hw hm 17 (by decide) (by decide) k rfl (show k < 20 by omega) rfl dX2_downUpTo_44 ?_
            refine lv_icmp_ge (tgt := 67) hx hb dX2_downUpTo_45 (by decide) (fun c45 => ?_) (fun c45 => ?_)
            · rw [show (pm_dutL ar tank time k : Int32) = pm_dutL ar tank time (k + 1) by simp only [pm_dutL, if_pos c23, if_neg c34, if_pos c45]] at hl
              refine lv_iinc (v := nI (k + 1)) (lv' := [(4, .int (nI (k + 1))), (3, .int (pm_dutL ar tank time (k + 1))), (0, .ref mm), (1, .int tank), (2, .int time)]) hx hb dX2_downUpTo_67 hl (k := 0) rfl (nI_1 _) (by decide) rfl (fun ls hl => ?_)
              refine lv_goto (tgt := 6) hx hb dX2_downUpTo_70 (by decide) ?_
              exact ih6 (k + 1) (by omega) (by omega) _ _ hw ls hl
            · refine lv_aload_n hx hb dX2_downUpTo_48 rfl (lv_at hl 2 rfl) ?_
              refine gf_X2_43 C hw hm.1 (v := .ref (ad 17)) rfl dX2_downUpTo_49 ?_
              refine lv_iload hx hb dX2_downUpTo_52 (lv_at hl 0 rfl) ?_
              refine mo_ald (v := ar 17 k) C hw hm 17 (by decide) (by decide) k rfl (show k < 20 by omega) rfl dX2_downUpTo_54 ?_
              refine lv_iload_n hx hb dX2_downUpTo_55 rfl (lv_at hl 1 rfl) ?_
              refine lv_icmp_le (tgt := 67) hx hb dX2_downUpTo_56 (by decide) (fun c56 => ?_) (fun c56 => ?_)
              · rw [show (pm_dutL ar tank time k : Int32) = pm_dutL ar tank time (k + 1) by simp only [pm_dutL, if_pos c23, if_neg c34, if_neg c45, if_pos c56]] at hl
                refine lv_iinc (v := nI (k + 1)) (lv' := [(4, .int (nI (k + 1))), (3, .int (pm_dutL ar tank time (k + 1))), (0, .ref mm), (1, .int tank), (2, .int time)]) hx hb dX2_downUpTo_67 hl (k := 0) rfl (nI_1 _) (by decide) rfl (fun ls hl => ?_)
                refine lv_goto (tgt := 6) hx hb dX2_downUpTo_70 (by decide) ?_
                exact ih6 (k + 1) (by omega) (by omega) _ _ hw ls hl
              · refine lv_aload_n hx hb dX2_downUpTo_59 rfl (lv_at hl 2 rfl) ?_
                refine gf_X2_43 C hw hm.1 (v := .ref (ad 17)) rfl dX2_downUpTo_60 ?_
                refine lv_iload hx hb dX2_downUpTo_63 (lv_at hl 0 rfl) ?_
                refine mo_ald (v := ar 17 k) C hw hm 17 (by decide) (by decide) k rfl (show k < 20 by omega) rfl dX2_downUpTo_65 ?_
                refine lv_istore_n (lv' := [(3, .int (ar 17 k)), (4, .int (nI k)), (0, .ref mm), (1, .int tank), (2, .int time)]) hx hb dX2_downUpTo_66 rfl hl (by decide) rfl (fun ls hl => ?_)
                rw [show (ar 17 k : Int32) = pm_dutL ar tank time (k + 1) by simp only [pm_dutL, if_pos c23, if_neg c34, if_neg c45, if_neg c56]] at hl
                refine lv_iinc (v := nI (k + 1)) (lv' := [(4, .int (nI (k + 1))), (3, .int (pm_dutL ar tank time (k + 1))), (0, .ref mm), (1, .int tank), (2, .int time)]) hx hb dX2_downUpTo_67 hl (k := 1) rfl (nI_1 _) (by decide) rfl (fun ls hl => ?_)
                refine lv_goto (tgt := 6) hx hb dX2_downUpTo_70 (by decide) ?_
                exact ih6 (k + 1) (by omega) (by omega) _ _ hw ls hl
  refine tf_start [.ref mm, .int tank, .int time] (Nat.le_of_ble_eq_true rfl) (fun ls hl => ?_)
  have hl : lv_has ls 5 [(0, .ref mm), (1, .int tank), (2, .int time)] := hl
  refine lv_bipush (v := (-9)) hx hb dX2_downUpTo_0 (by decide) ?_
  refine lv_istore_n (lv' := [(3, .int ((-9))), (0, .ref mm), (1, .int tank), (2, .int time)]) hx hb dX2_downUpTo_2 rfl hl (by decide) rfl (fun ls hl => ?_)
  refine lv_iconst (v := 0) hx hb dX2_downUpTo_3 (by decide) ?_
  refine lv_istore (lv' := [(4, .int 0), (3, .int ((-9))), (0, .ref mm), (1, .int tank), (2, .int time)]) hx hb dX2_downUpTo_4 hl (by decide) rfl (fun ls hl => ?_)
  exact b6 (nd + 1) 0 (by omega) (Nat.zero_le _) _ _ hw ls hl

set_option maxHeartbeats 4000000 in
set_option maxRecDepth 100000 in
theorem metX2_isLooked {l : Launch} {S0 : State} {D : va_G} {dA : Nat → ClassId} (hB : tf_B S0 D dA) {sz : Nat} {G : tf_Pic} {mm : Nat} {ad : Nat → Nat} {iv : Nat → Int32} {ar : Nat → Nat → Int32} {fr : Nat → Int64} (hm : mo_W dA mm ad iv ar fr G) {h : Nat} (hh : h < 240) {nd : Nat} (hk14 : iv 14 = nI nd) (hnd : nd ≤ 20) : Met l yX2_isLooked (ws_ yX2_isLooked cX2_isLooked 2 (some .boolean)) (tf_rm 2 0 0) (tf_Pc S0 D sz G [.ref mm, .int (nI h)]) (tf_Qi S0 D sz G (fun r G1 => r = pt_b (pm_look ar nd h) ∧ G1 = G)) 0 0 (tf_A G sz) := by
  refine Met.ofW (cc := cX2_isLooked) (maxL := 2) (ret := (some .boolean)) (by decide) rfl ?_
  intro p e s m args below meth c s₁ B hml hv
  obtain ⟨C, hw, hr, hlk, hin, hargs⟩ := tf_enter hB B hml hv
  subst hargs
  have C : tf_C p s m ([.ref mm, .int (nI h)] : List Value).toArray c cX2_isLooked 2 RX2 S0 D dA := C
  have hx := C.hx
  have hb := C.hb
  change W p l e (tf_rm 2 0 0) s m ([.ref mm, .int (nI h)] : List Value).toArray below meth c s.heap [] 0 0 (MQ below (tf_Qi S0 D sz G (fun r G1 => r = pt_b (pm_look ar nd h) ∧ G1 = G)) ([.ref mm, .int (nI h)] : List Value).toArray s 0 0 (tf_A G sz)) (entryFrame m ([.ref mm, .int (nI h)] : List Value).toArray 2)
  refine tf_start [.ref mm, .int (nI h)] (Nat.le_of_ble_eq_true rfl) (fun ls hl => ?_)
  have hl : lv_has ls 2 [(0, .ref mm), (1, .int (nI h))] := hl
  refine lv_aload_n hx hb dX2_isLooked_0 rfl (lv_at hl 0 rfl) ?_
  refine lv_aload_n hx hb dX2_isLooked_1 rfl (lv_at hl 0 rfl) ?_
  refine gf_X2_16 C hw hm.1 (v := .ref (ad 6)) rfl dX2_isLooked_2 ?_
  refine lv_iload_n hx hb dX2_isLooked_5 rfl (lv_at hl 1 rfl) ?_
  refine mo_ald (v := ar 6 h) C hw hm 6 (by decide) (by decide) h rfl (show h < 240 by omega) rfl dX2_isLooked_6 ?_
  refine lv_aload_n hx hb dX2_isLooked_7 rfl (lv_at hl 0 rfl) ?_
  refine gf_X2_19 C hw hm.1 (v := .ref (ad 7)) rfl dX2_isLooked_8 ?_
  refine lv_iload_n hx hb dX2_isLooked_11 rfl (lv_at hl 1 rfl) ?_
  refine mo_ald (v := ar 7 h) C hw hm 7 (by decide) (by decide) h rfl (show h < 240 by omega) rfl dX2_isLooked_12 ?_
  refine tf_goi (tf_V (n := 2) C hw hm.1 rfl [.int (ar 6 h), .int (ar 7 h)] (metX2_downUpTo hB hm hk14 hnd (ar 6 h) (ar 7 h)) (lw_V q1096 q1098 qs24 q45 q1099) rfl ⟨by decide, by decide, by decide +kernel⟩ ⟨rfl, rfl, Nat.le_of_ble_eq_true rfl, Nat.le_of_ble_eq_true rfl, (by first | exact Nat.le_of_ble_eq_true rfl | (show _ ≤ 0; omega)), (by first | exact Nat.le_of_ble_eq_true rfl | (show _ ≤ 0; omega))⟩ rfl hl rfl (Nat.le_of_ble_eq_true rfl) dX2_isLooked_13) hw (fun r1 G1 H locs hp1 hw => ?_)
  obtain ⟨hre, hGe⟩ := hp1
  have hre : r1 = pm_dutL ar (ar 6 h) (ar 7 h) nd := hre
  obtain rfl := hre.symm
  obtain rfl := hGe.symm
  refine lv_bipush (v := (-9)) hx hb dX2_isLooked_16 (by decide) ?_
  refine lv_icmp_ne (tgt := 25) hx hb dX2_isLooked_18 (by decide) (fun c18 => ?_) (fun c18 => ?_)
  · refine lv_iconst (v := 0) hx hb dX2_isLooked_25 (by decide) ?_
    exact tf_retz C hw hr hlk dX2_isLooked_26 (by first | exact Nat.le_of_ble_eq_true rfl | omega) (by first | exact Nat.le_of_ble_eq_true rfl | omega) (Or.inl rfl) (by refine ⟨?_, rfl⟩; simp [pm_look, pt_b, c18])
  · refine lv_iconst (v := 1) hx hb dX2_isLooked_21 (by decide) ?_
    refine lv_goto (tgt := 26) hx hb dX2_isLooked_22 (by decide) ?_
    exact tf_retz C hw hr hlk dX2_isLooked_26 (by first | exact Nat.le_of_ble_eq_true rfl | omega) (by first | exact Nat.le_of_ble_eq_true rfl | omega) (Or.inr rfl) (by refine ⟨?_, rfl⟩; simp [pm_look, pt_b, c18])

set_option maxHeartbeats 4000000 in
set_option maxRecDepth 100000 in
theorem metX2_begins {l : Launch} {S0 : State} {D : va_G} {dA : Nat → ClassId} (hB : tf_B S0 D dA) {sz : Nat} {G : tf_Pic} {mm : Nat} {ad : Nat → Nat} {iv : Nat → Int32} {ar : Nat → Nat → Int32} {fr : Nat → Int64} (hm : mo_W dA mm ad iv ar fr G) (v : Int32) : Met l yX2_begins (ws_ yX2_begins cX2_begins 2 none) (tf_rm 1 0 0) (tf_Pc S0 D sz G [.ref mm, .int v]) (tf_Qv S0 D sz G (fun G1 => mo_W dA mm ad (va_up iv 1 (31 * iv 1 + v)) ar fr G1)) 0 0 (tf_A G sz) := by
  refine Met.ofW (cc := cX2_begins) (maxL := 2) (ret := none) (by decide) rfl ?_
  intro p e s m args below meth c s₁ B hml hv
  obtain ⟨C, hw, hr, hlk, hin, hargs⟩ := tf_enter hB B hml hv
  subst hargs
  have C : tf_C p s m ([.ref mm, .int v] : List Value).toArray c cX2_begins 2 RX2 S0 D dA := C
  have hx := C.hx
  have hb := C.hb
  change W p l e (tf_rm 1 0 0) s m ([.ref mm, .int v] : List Value).toArray below meth c s.heap [] 0 0 (MQ below (tf_Qv S0 D sz G (fun G1 => mo_W dA mm ad (va_up iv 1 (31 * iv 1 + v)) ar fr G1)) ([.ref mm, .int v] : List Value).toArray s 0 0 (tf_A G sz)) (entryFrame m ([.ref mm, .int v] : List Value).toArray 2)
  refine tf_start [.ref mm, .int v] (Nat.le_of_ble_eq_true rfl) (fun ls hl => ?_)
  have hl : lv_has ls 2 [(0, .ref mm), (1, .int v)] := hl
  refine lv_aload_n hx hb dX2_begins_0 rfl (lv_at hl 0 rfl) ?_
  refine lv_bipush (v := 31) hx hb dX2_begins_1 (by decide) ?_
  refine lv_aload_n hx hb dX2_begins_3 rfl (lv_at hl 0 rfl) ?_
  refine gf_X2_221 C hw hm.1 (v := .int (iv 1)) rfl dX2_begins_4 ?_
  refine lv_imul hx hb dX2_begins_7 ?_
  refine lv_iload_n hx hb dX2_begins_8 rfl (lv_at hl 1 rfl) ?_
  refine lv_iadd hx hb dX2_begins_9 ?_
  refine pf_X2_221 C hw hm.1 ((31 * (iv 1)) + v) (Nat.le_of_ble_eq_true rfl) dX2_begins_10 (mo_put hm 1 (by decide) (fun G1 H locs hm hw => ?_))
  exact tf_retv C hw hr hlk dX2_begins_13 (by first | exact Nat.le_of_ble_eq_true rfl | omega) (by first | exact Nat.le_of_ble_eq_true rfl | omega) (hm)

set_option maxHeartbeats 4000000 in
set_option maxRecDepth 100000 in
theorem metX2_mostOf {l : Launch} {S0 : State} {D : va_G} {dA : Nat → ClassId} (hB : tf_B S0 D dA) {sz : Nat} {G : tf_Pic} (k : Int32) : Met l yX2_mostOf (ws_ yX2_mostOf cX2_mostOf 1 (some .int)) (tf_rm 1 0 0) (tf_Pc S0 D sz G [.int k]) (tf_Qi S0 D sz G (fun r G1 => r = (if 2 ≤ k then (if k = 2 then 12 else 4080) else 300) ∧ G1 = G)) 0 0 (tf_A G sz) := by
  refine Met.ofW (cc := cX2_mostOf) (maxL := 1) (ret := (some .int)) (by decide) rfl ?_
  intro p e s m args below meth c s₁ B hml hv
  obtain ⟨C, hw, hr, hlk, hin, hargs⟩ := tf_enter hB B hml hv
  subst hargs
  have C : tf_C p s m ([.int k] : List Value).toArray c cX2_mostOf 1 RX2 S0 D dA := C
  have hx := C.hx
  have hb := C.hb
  change W p l e (tf_rm 1 0 0) s m ([.int k] : List Value).toArray below meth c s.heap [] 0 0 (MQ below (tf_Qi S0 D sz G (fun r G1 => r = (if 2 ≤ k then (if k = 2 then 12 else 4080) else 300) ∧ G1 = G)) ([.int k] : List Value).toArray s 0 0 (tf_A G sz)) (entryFrame m ([.int k] : List Value).toArray 1)
  refine tf_start [.int k] (Nat.le_of_ble_eq_true rfl) (fun ls hl => ?_)
  have hl : lv_has ls 1 [(0, .int k)] := hl
  refine lv_iload_n hx hb dX2_mostOf_0 rfl (lv_at hl 0 rfl) ?_
  refine lv_iconst (v := 2) hx hb dX2_mostOf_1 (by decide) ?_
  refine lv_icmp_ge (tgt := 11) hx hb dX2_mostOf_2 (by decide) (fun c2 => ?_) (fun c2 => ?_)
  · refine lv_iload_n hx hb dX2_mostOf_11 rfl (lv_at hl 0 rfl) ?_
    refine lv_iconst (v := 2) hx hb dX2_mostOf_12 (by decide) ?_
    refine lv_icmp_ne (tgt := 21) hx hb dX2_mostOf_13 (by decide) (fun c13 => ?_) (fun c13 => ?_)
    · refine lv_sipush (v := 4080) hx hb dX2_mostOf_21 (by decide) ?_
      exact tf_reti C hw hr hlk dX2_mostOf_24 (by first | exact Nat.le_of_ble_eq_true rfl | omega) (by first | exact Nat.le_of_ble_eq_true rfl | omega) (by refine ⟨?_, rfl⟩; simp [c2, c13])
    · refine lv_bipush (v := 12) hx hb dX2_mostOf_16 (by decide) ?_
      refine lv_goto (tgt := 24) hx hb dX2_mostOf_18 (by decide) ?_
      exact tf_reti C hw hr hlk dX2_mostOf_24 (by first | exact Nat.le_of_ble_eq_true rfl | omega) (by first | exact Nat.le_of_ble_eq_true rfl | omega) (by refine ⟨?_, rfl⟩; simp [c2, c13])
  · refine lv_sipush (v := 300) hx hb dX2_mostOf_5 (by decide) ?_
    refine lv_goto (tgt := 24) hx hb dX2_mostOf_8 (by decide) ?_
    exact tf_reti C hw hr hlk dX2_mostOf_24 (by first | exact Nat.le_of_ble_eq_true rfl | omega) (by first | exact Nat.le_of_ble_eq_true rfl | omega) (by refine ⟨?_, rfl⟩; simp [c2])

set_option maxHeartbeats 4000000 in
set_option maxRecDepth 100000 in
theorem metX2_trace {l : Launch} {S0 : State} {D : va_G} {dA : Nat → ClassId} (hB : tf_B S0 D dA) {sz : Nat} {G : tf_Pic} {mm : Nat} {ad : Nat → Nat} {iv : Nat → Int32} {ar : Nat → Nat → Int32} {fr : Nat → Int64} (hm : mo_W dA mm ad iv ar fr G) : Met l yX2_trace (ws_ yX2_trace cX2_trace 1 (some .int)) (tf_rm 1 0 0) (tf_Pc S0 D sz G [.ref mm]) (tf_Qi S0 D sz G (fun r G1 => r = iv 1 ∧ G1 = G)) 0 0 (tf_A G sz) := by
  refine Met.ofW (cc := cX2_trace) (maxL := 1) (ret := (some .int)) (by decide) rfl ?_
  intro p e s m args below meth c s₁ B hml hv
  obtain ⟨C, hw, hr, hlk, hin, hargs⟩ := tf_enter hB B hml hv
  subst hargs
  have C : tf_C p s m ([.ref mm] : List Value).toArray c cX2_trace 1 RX2 S0 D dA := C
  have hx := C.hx
  have hb := C.hb
  change W p l e (tf_rm 1 0 0) s m ([.ref mm] : List Value).toArray below meth c s.heap [] 0 0 (MQ below (tf_Qi S0 D sz G (fun r G1 => r = iv 1 ∧ G1 = G)) ([.ref mm] : List Value).toArray s 0 0 (tf_A G sz)) (entryFrame m ([.ref mm] : List Value).toArray 1)
  refine tf_start [.ref mm] (Nat.le_of_ble_eq_true rfl) (fun ls hl => ?_)
  have hl : lv_has ls 1 [(0, .ref mm)] := hl
  refine lv_aload_n hx hb dX2_trace_0 rfl (lv_at hl 0 rfl) ?_
  refine gf_X2_221 C hw hm.1 (v := .int (iv 1)) rfl dX2_trace_1 ?_
  exact tf_reti C hw hr hlk dX2_trace_4 (by first | exact Nat.le_of_ble_eq_true rfl | omega) (by first | exact Nat.le_of_ble_eq_true rfl | omega) (by exact ⟨rfl, rfl⟩)

set_option maxHeartbeats 4000000 in
set_option maxRecDepth 100000 in
theorem metX2_fault {l : Launch} {S0 : State} {D : va_G} {dA : Nat → ClassId} (hB : tf_B S0 D dA) {sz : Nat} {G : tf_Pic} {mm : Nat} {ad : Nat → Nat} {iv : Nat → Int32} {ar : Nat → Nat → Int32} {fr : Nat → Int64} (hm : mo_W dA mm ad iv ar fr G) : Met l yX2_fault (ws_ yX2_fault cX2_fault 1 (some .int)) (tf_rm 1 0 0) (tf_Pc S0 D sz G [.ref mm]) (tf_Qi S0 D sz G (fun r G1 => r = iv 0 ∧ G1 = G)) 0 0 (tf_A G sz) := by
  refine Met.ofW (cc := cX2_fault) (maxL := 1) (ret := (some .int)) (by decide) rfl ?_
  intro p e s m args below meth c s₁ B hml hv
  obtain ⟨C, hw, hr, hlk, hin, hargs⟩ := tf_enter hB B hml hv
  subst hargs
  have C : tf_C p s m ([.ref mm] : List Value).toArray c cX2_fault 1 RX2 S0 D dA := C
  have hx := C.hx
  have hb := C.hb
  change W p l e (tf_rm 1 0 0) s m ([.ref mm] : List Value).toArray below meth c s.heap [] 0 0 (MQ below (tf_Qi S0 D sz G (fun r G1 => r = iv 0 ∧ G1 = G)) ([.ref mm] : List Value).toArray s 0 0 (tf_A G sz)) (entryFrame m ([.ref mm] : List Value).toArray 1)
  refine tf_start [.ref mm] (Nat.le_of_ble_eq_true rfl) (fun ls hl => ?_)
  have hl : lv_has ls 1 [(0, .ref mm)] := hl
  refine lv_aload_n hx hb dX2_fault_0 rfl (lv_at hl 0 rfl) ?_
  refine gf_X2_98 C hw hm.1 (v := .int (iv 0)) rfl dX2_fault_1 ?_
  exact tf_reti C hw hr hlk dX2_fault_4 (by first | exact Nat.le_of_ble_eq_true rfl | omega) (by first | exact Nat.le_of_ble_eq_true rfl | omega) (by exact ⟨rfl, rfl⟩)
