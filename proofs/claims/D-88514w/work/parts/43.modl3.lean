/-! MODULE TankFieldModel, part 3: rules, sheets, parts -/
set_option maxRecDepth 100000
theorem pm_cl {k M : Int32} {n : Nat} (hM : M.toInt = n) (h : pm_in k 0 M = true) : ∃ K : Nat, K ≤ n ∧ k = nI K ∧ k.toNatClampNeg = K := by
  simp only [pm_in, Bool.and_eq_true, decide_eq_true_eq] at h
  obtain ⟨h1, h2⟩ := h
  obtain ⟨K, hK, e⟩ := nI_of2 hM (Int32.not_lt.mpr h1) h2
  have hn : n < 2 ^ 31 := by have := M.toInt_lt; omega
  exact ⟨K, hK, e, by rw [e]; exact nI_clamp (by omega)⟩
theorem pm_clof {k : Int32} {n : Nat} (hn : n < 2 ^ 31) (h : pm_of k (nI n) = true) : ∃ K : Nat, K < n ∧ k = nI K ∧ k.toNatClampNeg = K := by
  simp only [pm_of, Bool.and_eq_true, decide_eq_true_eq] at h
  obtain ⟨h1, h2⟩ := h
  obtain ⟨K, hK, e⟩ := nI_of (Int32.not_lt.mpr h1)
  rw [e] at h2
  exact ⟨K, (nI_ltI hK hn).mp h2, e, by rw [e]; exact nI_clamp hK⟩
/-- an index below a number that may be 0 -/
theorem pm_cl1 {k : Int32} {n : Nat} (hn : n < 2 ^ 31) (h : pm_in k 0 (nI n - 1) = true) : ∃ K : Nat, K < n ∧ k = nI K ∧ k.toNatClampNeg = K := by
  cases n with
  | zero =>
    simp only [pm_in, Bool.and_eq_true, decide_eq_true_eq] at h
    obtain ⟨h1, h2⟩ := h
    have h3 : k.toInt ≤ (nI 0 - 1 : Int32).toInt := Int32.le_iff_toInt_le.mp h2
    have h4 : (0 : Int32).toInt ≤ k.toInt := Int32.le_iff_toInt_le.mp h1
    have e1 : (nI 0 - 1 : Int32).toInt = -1 := by decide
    have e2 : (0 : Int32).toInt = 0 := by decide
    omega
  | succ n =>
    rw [nI_pred] at h
    obtain ⟨K, h1, h2, h3⟩ := pm_cl (n := n) (nI_toInt (by omega)) h
    exact ⟨K, by omega, h2, h3⟩
theorem pm_ci (K I : Nat) : (40 : Int32) * nI K + nI I = nI (40 * K + I) := by
  rw [show (40 : Int32) = nI 40 from rfl, pk_mul, nI_add]
def pm_rule (ar : Nat → Nat → Int32) (k v : Int32) : Int32 × (Nat → Nat → Int32) := if pm_in k 0 3 then (if pm_in v (if k = 3 then 0 else 1) (if 2 ≤ k then (if k = 2 then 12 else 4080) else 300) then (ar 21 k.toNatClampNeg, va_up ar 21 (upd (ar 21) k.toNatClampNeg v)) else (-2, ar)) else (-1, ar)
def pm_drop (ar : Nat → Nat → Int32) (k : Int32) : Int32 × (Nat → Nat → Int32) := if pm_in k 0 3 then ((if ar 18 k.toNatClampNeg = -9 then 0 else 1), va_up ar 18 (upd (ar 18) k.toNatClampNeg (-9))) else (-1, ar)
def pm_told (iv : Nat → Int32) (ar : Nat → Nat → Int32) (k : Int32) : Int32 := if k = 0 then iv 2 else if k = 1 then iv 5 else if k = 2 then iv 30 else if k = 3 then iv 10 else if k = 4 then iv 14 else if k = 5 then iv 22 else if k = 6 then ar 21 0 else if k = 7 then ar 21 1 else if k = 8 then ar 21 2 else if k = 9 then ar 21 3 else -2

set_option maxHeartbeats 4000000 in
set_option maxRecDepth 100000 in
theorem metX2_rule {l : Launch} {S0 : State} {D : va_G} {dA : Nat → ClassId} (hB : tf_B S0 D dA) {sz : Nat} {G : tf_Pic} {mm : Nat} {ad : Nat → Nat} {iv : Nat → Int32} {ar : Nat → Nat → Int32} {fr : Nat → Int64} (hm : mo_W dA mm ad iv ar fr G) (k v : Int32) : Met l yX2_rule (ws_ yX2_rule cX2_rule 4 (some .int)) (tf_rm 2 0 0) (tf_Pc S0 D sz G [.ref mm, .int k, .int v]) (tf_Qi S0 D sz G (fun r G1 => ∃ ar1, (r, ar1) = pm_rule ar k v ∧ mo_W dA mm ad iv ar1 fr G1)) 0 0 (tf_A G sz) := by
  refine Met.ofW (cc := cX2_rule) (maxL := 4) (ret := (some .int)) (by decide) rfl ?_
  intro p e s m args below meth c s₁ B hml hv
  obtain ⟨C, hw, hr, hlk, hin, hargs⟩ := tf_enter hB B hml hv
  subst hargs
  have C : tf_C p s m ([.ref mm, .int k, .int v] : List Value).toArray c cX2_rule 4 RX2 S0 D dA := C
  have hx := C.hx
  have hb := C.hb
  change W p l e (tf_rm 2 0 0) s m ([.ref mm, .int k, .int v] : List Value).toArray below meth c s.heap [] 0 0 (MQ below (tf_Qi S0 D sz G (fun r G1 => ∃ ar1, (r, ar1) = pm_rule ar k v ∧ mo_W dA mm ad iv ar1 fr G1)) ([.ref mm, .int k, .int v] : List Value).toArray s 0 0 (tf_A G sz)) (entryFrame m ([.ref mm, .int k, .int v] : List Value).toArray 4)
  refine tf_start [.ref mm, .int k, .int v] (Nat.le_of_ble_eq_true rfl) (fun ls hl => ?_)
  have hl : lv_has ls 4 [(0, .ref mm), (1, .int k), (2, .int v)] := hl
  refine lv_iload_n hx hb dX2_rule_0 rfl (lv_at hl 1 rfl) ?_
  refine lv_iconst (v := 0) hx hb dX2_rule_1 (by decide) ?_
  refine lv_iconst (v := 3) hx hb dX2_rule_2 (by decide) ?_
  refine tf_goi (tf_S (n := 3) C hw [.int k, .int 0, .int 3] (metX2_within hB k 0 3) (lw_S q1052 q1053 q45 q1054) ⟨by decide, by decide, by decide +kernel⟩ ⟨rfl, rfl, Nat.le_of_ble_eq_true rfl, Nat.le_of_ble_eq_true rfl, (by first | exact Nat.le_of_ble_eq_true rfl | (show _ ≤ 0; omega)), (by first | exact Nat.le_of_ble_eq_true rfl | (show _ ≤ 0; omega))⟩ rfl hl rfl (Nat.le_of_ble_eq_true rfl) dX2_rule_3) hw (fun r1 G1 H locs hp1 hw => ?_)
  obtain ⟨hre, hGe⟩ := hp1
  have hre : r1 = pt_b (pm_in k 0 3) := hre
  obtain rfl := hre.symm
  obtain rfl := hGe.symm
  refine lv_if_ne (tgt := 11) hx hb dX2_rule_6 (by decide) (fun c6 => ?_) (fun c6 => ?_)
  · replace c6 := pt_b1 c6
    refine lv_iload_n hx hb dX2_rule_11 rfl (lv_at hl 2 rfl) ?_
    refine lv_iload_n hx hb dX2_rule_12 rfl (lv_at hl 1 rfl) ?_
    refine lv_iconst (v := 3) hx hb dX2_rule_13 (by decide) ?_
    refine lv_icmp_ne (tgt := 21) hx hb dX2_rule_14 (by decide) (fun c14 => ?_) (fun c14 => ?_)
    · refine lv_iconst (v := 1) hx hb dX2_rule_21 (by decide) ?_
      refine lv_iload_n hx hb dX2_rule_22 rfl (lv_at hl 1 rfl) ?_
      refine tf_goi (tf_S (n := 1) C hw [.int k] (metX2_mostOf hB k) (lw_S q1129 q1130 q45 q1131) ⟨by decide, by decide, by decide +kernel⟩ ⟨rfl, rfl, Nat.le_of_ble_eq_true rfl, Nat.le_of_ble_eq_true rfl, (by first | exact Nat.le_of_ble_eq_true rfl | (show _ ≤ 0; omega)), (by first | exact Nat.le_of_ble_eq_true rfl | (show _ ≤ 0; omega))⟩ rfl hl rfl (Nat.le_of_ble_eq_true rfl) dX2_rule_23) hw (fun r2 G2 H locs hp2 hw => ?_)
      obtain ⟨hre, hGe⟩ := hp2
      have hre : r2 = if 2 ≤ k then (if k = 2 then 12 else 4080) else 300 := hre
      obtain rfl := hre.symm
      obtain rfl := hGe.symm
      refine tf_goi (tf_S (n := 3) C hw [.int v, .int 1, .int (if 2 ≤ k then (if k = 2 then 12 else 4080) else 300)] (metX2_within hB v 1 (if 2 ≤ k then (if k = 2 then 12 else 4080) else 300)) (lw_S q1052 q1053 q45 q1054) ⟨by decide, by decide, by decide +kernel⟩ ⟨rfl, rfl, Nat.le_of_ble_eq_true rfl, Nat.le_of_ble_eq_true rfl, (by first | exact Nat.le_of_ble_eq_true rfl | (show _ ≤ 0; omega)), (by first | exact Nat.le_of_ble_eq_true rfl | (show _ ≤ 0; omega))⟩ rfl hl rfl (Nat.le_of_ble_eq_true rfl) dX2_rule_26) hw (fun r3 G3 H locs hp3 hw => ?_)
      obtain ⟨hre, hGe⟩ := hp3
      have hre : r3 = pt_b (pm_in v 1 (if 2 ≤ k then (if k = 2 then 12 else 4080) else 300)) := hre
      obtain rfl := hre.symm
      obtain rfl := hGe.symm
      refine lv_if_ne (tgt := 35) hx hb dX2_rule_29 (by decide) (fun c29 => ?_) (fun c29 => ?_)
      · replace c29 := pt_b1 c29
        obtain ⟨K, hKb, hK, hKc⟩ := pm_cl (n := 3) (by decide) c6
        rw [hK] at hl
        refine lv_aload_n hx hb dX2_rule_35 rfl (lv_at hl 0 rfl) ?_
        refine gf_X2_55 C hw hm.1 (v := .ref (ad 21)) rfl dX2_rule_36 ?_
        refine lv_iload_n hx hb dX2_rule_39 rfl (lv_at hl 1 rfl) ?_
        refine mo_ald (v := ar 21 K) C hw hm 21 (by decide) (by decide) K rfl (show K < 4 by omega) rfl dX2_rule_40 ?_
        refine lv_istore_n (lv' := [(3, .int (ar 21 K)), (0, .ref mm), (1, .int (nI K)), (2, .int v)]) hx hb dX2_rule_41 rfl hl (by decide) rfl (fun ls hl => ?_)
        refine lv_aload_n hx hb dX2_rule_42 rfl (lv_at hl 1 rfl) ?_
        refine gf_X2_55 C hw hm.1 (v := .ref (ad 21)) rfl dX2_rule_43 ?_
        refine lv_iload_n hx hb dX2_rule_46 rfl (lv_at hl 2 rfl) ?_
        refine lv_iload_n hx hb dX2_rule_47 rfl (lv_at hl 3 rfl) ?_
        refine mo_ast C hw hm 21 (by decide) (by decide) (ar 21) rfl K rfl (show K < 4 by omega) dX2_rule_48 (fun G4 H locs hm hw => ?_)
        refine lv_iload_n hx hb dX2_rule_49 rfl (lv_at hl 0 rfl) ?_
        exact tf_reti C hw hr hlk dX2_rule_50 (by first | exact Nat.le_of_ble_eq_true rfl | omega) (by first | exact Nat.le_of_ble_eq_true rfl | omega) (by refine ⟨_, ?_, hm⟩; simp only [pm_rule, c6, if_true, if_neg c14, c29, hKc])
      · replace c29 := pt_b0 c29
        refine lv_bipush (v := (-2)) hx hb dX2_rule_32 (by decide) ?_
        exact tf_reti C hw hr hlk dX2_rule_34 (by first | exact Nat.le_of_ble_eq_true rfl | omega) (by first | exact Nat.le_of_ble_eq_true rfl | omega) (by refine ⟨_, ?_, hm⟩; simp only [pm_rule, c6, if_true, if_neg c14, c29, Bool.false_eq_true, if_false])
    · refine lv_iconst (v := 0) hx hb dX2_rule_17 (by decide) ?_
      refine lv_goto (tgt := 22) hx hb dX2_rule_18 (by decide) ?_
      refine lv_iload_n hx hb dX2_rule_22 rfl (lv_at hl 1 rfl) ?_
      refine tf_goi (tf_S (n := 1) C hw [.int k] (metX2_mostOf hB k) (lw_S q1129 q1130 q45 q1131) ⟨by decide, by decide, by decide +kernel⟩ ⟨rfl, rfl, Nat.le_of_ble_eq_true rfl, Nat.le_of_ble_eq_true rfl, (by first | exact Nat.le_of_ble_eq_true rfl | (show _ ≤ 0; omega)), (by first | exact Nat.le_of_ble_eq_true rfl | (show _ ≤ 0; omega))⟩ rfl hl rfl (Nat.le_of_ble_eq_true rfl) dX2_rule_23) hw (fun r5 G5 H locs hp5 hw => ?_)
      obtain ⟨hre, hGe⟩ := hp5
      have hre : r5 = if 2 ≤ k then (if k = 2 then 12 else 4080) else 300 := hre
      obtain rfl := hre.symm
      obtain rfl := hGe.symm
      refine tf_goi (tf_S (n := 3) C hw [.int v, .int 0, .int (if 2 ≤ k then (if k = 2 then 12 else 4080) else 300)] (metX2_within hB v 0 (if 2 ≤ k then (if k = 2 then 12 else 4080) else 300)) (lw_S q1052 q1053 q45 q1054) ⟨by decide, by decide, by decide +kernel⟩ ⟨rfl, rfl, Nat.le_of_ble_eq_true rfl, Nat.le_of_ble_eq_true rfl, (by first | exact Nat.le_of_ble_eq_true rfl | (show _ ≤ 0; omega)), (by first | exact Nat.le_of_ble_eq_true rfl | (show _ ≤ 0; omega))⟩ rfl hl rfl (Nat.le_of_ble_eq_true rfl) dX2_rule_26) hw (fun r6 G6 H locs hp6 hw => ?_)
      obtain ⟨hre, hGe⟩ := hp6
      have hre : r6 = pt_b (pm_in v 0 (if 2 ≤ k then (if k = 2 then 12 else 4080) else 300)) := hre
      obtain rfl := hre.symm
      obtain rfl := hGe.symm
      refine lv_if_ne (tgt := 35) hx hb dX2_rule_29 (by decide) (fun c29 => ?_) (fun c29 => ?_)
      · replace c29 := pt_b1 c29
        obtain ⟨K, hKb, hK, hKc⟩ := pm_cl (n := 3) (by decide) c6
        rw [hK] at hl
        refine lv_aload_n hx hb dX2_rule_35 rfl (lv_at hl 0 rfl) ?_
        refine gf_X2_55 C hw hm.1 (v := .ref (ad 21)) rfl dX2_rule_36 ?_
        refine lv_iload_n hx hb dX2_rule_39 rfl (lv_at hl 1 rfl) ?_
        refine mo_ald (v := ar 21 K) C hw hm 21 (by decide) (by decide) K rfl (show K < 4 by omega) rfl dX2_rule_40 ?_
        refine lv_istore_n (lv' := [(3, .int (ar 21 K)), (0, .ref mm), (1, .int (nI K)), (2, .int v)]) hx hb dX2_rule_41 rfl hl (by decide) rfl (fun ls hl => ?_)
        refine lv_aload_n hx hb dX2_rule_42 rfl (lv_at hl 1 rfl) ?_
        refine gf_X2_55 C hw hm.1 (v := .ref (ad 21)) rfl dX2_rule_43 ?_
        refine lv_iload_n hx hb dX2_rule_46 rfl (lv_at hl 2 rfl) ?_
        refine lv_iload_n hx hb dX2_rule_47 rfl (lv_at hl 3 rfl) ?_
        refine mo_ast C hw hm 21 (by decide) (by decide) (ar 21) rfl K rfl (show K < 4 by omega) dX2_rule_48 (fun G7 H locs hm hw => ?_)
        refine lv_iload_n hx hb dX2_rule_49 rfl (lv_at hl 0 rfl) ?_
        exact tf_reti C hw hr hlk dX2_rule_50 (by first | exact Nat.le_of_ble_eq_true rfl | omega) (by first | exact Nat.le_of_ble_eq_true rfl | omega) (by refine ⟨_, ?_, hm⟩; simp only [pm_rule, c6, if_true, if_pos c14, c29, hKc])
      · replace c29 := pt_b0 c29
        refine lv_bipush (v := (-2)) hx hb dX2_rule_32 (by decide) ?_
        exact tf_reti C hw hr hlk dX2_rule_34 (by first | exact Nat.le_of_ble_eq_true rfl | omega) (by first | exact Nat.le_of_ble_eq_true rfl | omega) (by refine ⟨_, ?_, hm⟩; simp only [pm_rule, c6, if_true, if_pos c14, c29, Bool.false_eq_true, if_false])
  · replace c6 := pt_b0 c6
    refine lv_iconst (v := (-1)) hx hb dX2_rule_9 (by decide) ?_
    exact tf_reti C hw hr hlk dX2_rule_10 (by first | exact Nat.le_of_ble_eq_true rfl | omega) (by first | exact Nat.le_of_ble_eq_true rfl | omega) (by refine ⟨_, ?_, hm⟩; simp [pm_rule, c6])

set_option maxHeartbeats 4000000 in
set_option maxRecDepth 100000 in
theorem metX2_drop {l : Launch} {S0 : State} {D : va_G} {dA : Nat → ClassId} (hB : tf_B S0 D dA) {sz : Nat} {G : tf_Pic} {mm : Nat} {ad : Nat → Nat} {iv : Nat → Int32} {ar : Nat → Nat → Int32} {fr : Nat → Int64} (hm : mo_W dA mm ad iv ar fr G) (k : Int32) : Met l yX2_drop (ws_ yX2_drop cX2_drop 3 (some .int)) (tf_rm 2 0 0) (tf_Pc S0 D sz G [.ref mm, .int k]) (tf_Qi S0 D sz G (fun r G1 => ∃ ar1, (r, ar1) = pm_drop ar k ∧ mo_W dA mm ad iv ar1 fr G1)) 0 0 (tf_A G sz) := by
  refine Met.ofW (cc := cX2_drop) (maxL := 3) (ret := (some .int)) (by decide) rfl ?_
  intro p e s m args below meth c s₁ B hml hv
  obtain ⟨C, hw, hr, hlk, hin, hargs⟩ := tf_enter hB B hml hv
  subst hargs
  have C : tf_C p s m ([.ref mm, .int k] : List Value).toArray c cX2_drop 3 RX2 S0 D dA := C
  have hx := C.hx
  have hb := C.hb
  change W p l e (tf_rm 2 0 0) s m ([.ref mm, .int k] : List Value).toArray below meth c s.heap [] 0 0 (MQ below (tf_Qi S0 D sz G (fun r G1 => ∃ ar1, (r, ar1) = pm_drop ar k ∧ mo_W dA mm ad iv ar1 fr G1)) ([.ref mm, .int k] : List Value).toArray s 0 0 (tf_A G sz)) (entryFrame m ([.ref mm, .int k] : List Value).toArray 3)
  refine tf_start [.ref mm, .int k] (Nat.le_of_ble_eq_true rfl) (fun ls hl => ?_)
  have hl : lv_has ls 3 [(0, .ref mm), (1, .int k)] := hl
  refine lv_iload_n hx hb dX2_drop_0 rfl (lv_at hl 1 rfl) ?_
  refine lv_iconst (v := 0) hx hb dX2_drop_1 (by decide) ?_
  refine lv_iconst (v := 3) hx hb dX2_drop_2 (by decide) ?_
  refine tf_goi (tf_S (n := 3) C hw [.int k, .int 0, .int 3] (metX2_within hB k 0 3) (lw_S q1052 q1053 q45 q1054) ⟨by decide, by decide, by decide +kernel⟩ ⟨rfl, rfl, Nat.le_of_ble_eq_true rfl, Nat.le_of_ble_eq_true rfl, (by first | exact Nat.le_of_ble_eq_true rfl | (show _ ≤ 0; omega)), (by first | exact Nat.le_of_ble_eq_true rfl | (show _ ≤ 0; omega))⟩ rfl hl rfl (Nat.le_of_ble_eq_true rfl) dX2_drop_3) hw (fun r1 G1 H locs hp1 hw => ?_)
  obtain ⟨hre, hGe⟩ := hp1
  have hre : r1 = pt_b (pm_in k 0 3) := hre
  obtain rfl := hre.symm
  obtain rfl := hGe.symm
  refine lv_if_ne (tgt := 11) hx hb dX2_drop_6 (by decide) (fun c6 => ?_) (fun c6 => ?_)
  · replace c6 := pt_b1 c6
    obtain ⟨K, hKb, hK, hKc⟩ := pm_cl (n := 3) (by decide) c6
    rw [hK] at hl
    refine lv_aload_n hx hb dX2_drop_11 rfl (lv_at hl 0 rfl) ?_
    refine gf_X2_46 C hw hm.1 (v := .ref (ad 18)) rfl dX2_drop_12 ?_
    refine lv_iload_n hx hb dX2_drop_15 rfl (lv_at hl 1 rfl) ?_
    refine mo_ald (v := ar 18 K) C hw hm 18 (by decide) (by decide) K rfl (show K < 4 by omega) rfl dX2_drop_16 ?_
    refine lv_bipush (v := (-9)) hx hb dX2_drop_17 (by decide) ?_
    refine lv_icmp_ne (tgt := 26) hx hb dX2_drop_19 (by decide) (fun c19 => ?_) (fun c19 => ?_)
    · refine lv_iconst (v := 1) hx hb dX2_drop_26 (by decide) ?_
      refine lv_istore_n (lv' := [(2, .int 1), (0, .ref mm), (1, .int (nI K))]) hx hb dX2_drop_27 rfl hl (by decide) rfl (fun ls hl => ?_)
      refine lv_aload_n hx hb dX2_drop_28 rfl (lv_at hl 1 rfl) ?_
      refine gf_X2_46 C hw hm.1 (v := .ref (ad 18)) rfl dX2_drop_29 ?_
      refine lv_iload_n hx hb dX2_drop_32 rfl (lv_at hl 2 rfl) ?_
      refine lv_bipush (v := (-9)) hx hb dX2_drop_33 (by decide) ?_
      refine mo_ast C hw hm 18 (by decide) (by decide) (ar 18) rfl K rfl (show K < 4 by omega) dX2_drop_35 (fun G2 H locs hm hw => ?_)
      refine lv_iload_n hx hb dX2_drop_36 rfl (lv_at hl 0 rfl) ?_
      exact tf_reti C hw hr hlk dX2_drop_37 (by first | exact Nat.le_of_ble_eq_true rfl | omega) (by first | exact Nat.le_of_ble_eq_true rfl | omega) (by refine ⟨_, ?_, hm⟩; simp [pm_drop, c6, c19, hKc])
    · refine lv_iconst (v := 0) hx hb dX2_drop_22 (by decide) ?_
      refine lv_goto (tgt := 27) hx hb dX2_drop_23 (by decide) ?_
      refine lv_istore_n (lv' := [(2, .int 0), (0, .ref mm), (1, .int (nI K))]) hx hb dX2_drop_27 rfl hl (by decide) rfl (fun ls hl => ?_)
      refine lv_aload_n hx hb dX2_drop_28 rfl (lv_at hl 1 rfl) ?_
      refine gf_X2_46 C hw hm.1 (v := .ref (ad 18)) rfl dX2_drop_29 ?_
      refine lv_iload_n hx hb dX2_drop_32 rfl (lv_at hl 2 rfl) ?_
      refine lv_bipush (v := (-9)) hx hb dX2_drop_33 (by decide) ?_
      refine mo_ast C hw hm 18 (by decide) (by decide) (ar 18) rfl K rfl (show K < 4 by omega) dX2_drop_35 (fun G3 H locs hm hw => ?_)
      refine lv_iload_n hx hb dX2_drop_36 rfl (lv_at hl 0 rfl) ?_
      exact tf_reti C hw hr hlk dX2_drop_37 (by first | exact Nat.le_of_ble_eq_true rfl | omega) (by first | exact Nat.le_of_ble_eq_true rfl | omega) (by refine ⟨_, ?_, hm⟩; simp [pm_drop, c6, c19, hKc])
  · replace c6 := pt_b0 c6
    refine lv_iconst (v := (-1)) hx hb dX2_drop_9 (by decide) ?_
    exact tf_reti C hw hr hlk dX2_drop_10 (by first | exact Nat.le_of_ble_eq_true rfl | omega) (by first | exact Nat.le_of_ble_eq_true rfl | omega) (by refine ⟨_, ?_, hm⟩; simp [pm_drop, c6])

set_option maxHeartbeats 4000000 in
set_option maxRecDepth 100000 in
theorem metX2_told {l : Launch} {S0 : State} {D : va_G} {dA : Nat → ClassId} (hB : tf_B S0 D dA) {sz : Nat} {G : tf_Pic} {mm : Nat} {ad : Nat → Nat} {iv : Nat → Int32} {ar : Nat → Nat → Int32} {fr : Nat → Int64} (hm : mo_W dA mm ad iv ar fr G) (k : Int32) : Met l yX2_told (ws_ yX2_told cX2_told 2 (some .int)) (tf_rm 1 0 0) (tf_Pc S0 D sz G [.ref mm, .int k]) (tf_Qi S0 D sz G (fun r G1 => r = pm_told iv ar k ∧ G1 = G)) 0 0 (tf_A G sz) := by
  refine Met.ofW (cc := cX2_told) (maxL := 2) (ret := (some .int)) (by decide) rfl ?_
  intro p e s m args below meth c s₁ B hml hv
  obtain ⟨C, hw, hr, hlk, hin, hargs⟩ := tf_enter hB B hml hv
  subst hargs
  have C : tf_C p s m ([.ref mm, .int k] : List Value).toArray c cX2_told 2 RX2 S0 D dA := C
  have hx := C.hx
  have hb := C.hb
  change W p l e (tf_rm 1 0 0) s m ([.ref mm, .int k] : List Value).toArray below meth c s.heap [] 0 0 (MQ below (tf_Qi S0 D sz G (fun r G1 => r = pm_told iv ar k ∧ G1 = G)) ([.ref mm, .int k] : List Value).toArray s 0 0 (tf_A G sz)) (entryFrame m ([.ref mm, .int k] : List Value).toArray 2)
  refine tf_start [.ref mm, .int k] (Nat.le_of_ble_eq_true rfl) (fun ls hl => ?_)
  have hl : lv_has ls 2 [(0, .ref mm), (1, .int k)] := hl
  refine lv_iload_n hx hb dX2_told_0 rfl (lv_at hl 1 rfl) ?_
  rcases tf_sw10 k with c1 | c1 | c1 | c1 | c1 | c1 | c1 | c1 | c1 | c1 | c1
  · refine lv_tableIn (tgt := 56) hx hb dX2_told_1 (by rw [c1]; decide) (by rw [c1]; decide) (off := 55) (by rw [c1]; rfl) (by decide) ?_
    refine lv_aload_n hx hb dX2_told_56 rfl (lv_at hl 0 rfl) ?_
    refine gf_X2_104 C hw hm.1 (v := .int (iv 2)) rfl dX2_told_57 ?_
    exact tf_reti C hw hr hlk dX2_told_60 (by first | exact Nat.le_of_ble_eq_true rfl | omega) (by first | exact Nat.le_of_ble_eq_true rfl | omega) (by refine ⟨?_, rfl⟩; rw [c1]; rfl)
  · refine lv_tableIn (tgt := 61) hx hb dX2_told_1 (by rw [c1]; decide) (by rw [c1]; decide) (off := 60) (by rw [c1]; rfl) (by decide) ?_
    refine lv_aload_n hx hb dX2_told_61 rfl (lv_at hl 0 rfl) ?_
    refine gf_X2_107 C hw hm.1 (v := .int (iv 5)) rfl dX2_told_62 ?_
    exact tf_reti C hw hr hlk dX2_told_65 (by first | exact Nat.le_of_ble_eq_true rfl | omega) (by first | exact Nat.le_of_ble_eq_true rfl | omega) (by refine ⟨?_, rfl⟩; rw [c1]; rfl)
  · refine lv_tableIn (tgt := 66) hx hb dX2_told_1 (by rw [c1]; decide) (by rw [c1]; decide) (off := 65) (by rw [c1]; rfl) (by decide) ?_
    refine lv_aload_n hx hb dX2_told_66 rfl (lv_at hl 0 rfl) ?_
    refine gf_X2_160 C hw hm.1 (v := .int (iv 30)) rfl dX2_told_67 ?_
    exact tf_reti C hw hr hlk dX2_told_70 (by first | exact Nat.le_of_ble_eq_true rfl | omega) (by first | exact Nat.le_of_ble_eq_true rfl | omega) (by refine ⟨?_, rfl⟩; rw [c1]; rfl)
  · refine lv_tableIn (tgt := 71) hx hb dX2_told_1 (by rw [c1]; decide) (by rw [c1]; decide) (off := 70) (by rw [c1]; rfl) (by decide) ?_
    refine lv_aload_n hx hb dX2_told_71 rfl (lv_at hl 0 rfl) ?_
    refine gf_X2_132 C hw hm.1 (v := .int (iv 10)) rfl dX2_told_72 ?_
    exact tf_reti C hw hr hlk dX2_told_75 (by first | exact Nat.le_of_ble_eq_true rfl | omega) (by first | exact Nat.le_of_ble_eq_true rfl | omega) (by refine ⟨?_, rfl⟩; rw [c1]; rfl)
  · refine lv_tableIn (tgt := 76) hx hb dX2_told_1 (by rw [c1]; decide) (by rw [c1]; decide) (off := 75) (by rw [c1]; rfl) (by decide) ?_
    refine lv_aload_n hx hb dX2_told_76 rfl (lv_at hl 0 rfl) ?_
    refine gf_X2_135 C hw hm.1 (v := .int (iv 14)) rfl dX2_told_77 ?_
    exact tf_reti C hw hr hlk dX2_told_80 (by first | exact Nat.le_of_ble_eq_true rfl | omega) (by first | exact Nat.le_of_ble_eq_true rfl | omega) (by refine ⟨?_, rfl⟩; rw [c1]; rfl)
  · refine lv_tableIn (tgt := 81) hx hb dX2_told_1 (by rw [c1]; decide) (by rw [c1]; decide) (off := 80) (by rw [c1]; rfl) (by decide) ?_
    refine lv_aload_n hx hb dX2_told_81 rfl (lv_at hl 0 rfl) ?_
    refine gf_X2_189 C hw hm.1 (v := .int (iv 22)) rfl dX2_told_82 ?_
    exact tf_reti C hw hr hlk dX2_told_85 (by first | exact Nat.le_of_ble_eq_true rfl | omega) (by first | exact Nat.le_of_ble_eq_true rfl | omega) (by refine ⟨?_, rfl⟩; rw [c1]; rfl)
  · refine lv_tableIn (tgt := 86) hx hb dX2_told_1 (by rw [c1]; decide) (by rw [c1]; decide) (off := 85) (by rw [c1]; rfl) (by decide) ?_
    refine lv_aload_n hx hb dX2_told_86 rfl (lv_at hl 0 rfl) ?_
    refine gf_X2_55 C hw hm.1 (v := .ref (ad 21)) rfl dX2_told_87 ?_
    refine lv_iload_n hx hb dX2_told_90 rfl (lv_at hl 1 rfl) ?_
    refine lv_bipush (v := 6) hx hb dX2_told_91 (by decide) ?_
    refine lv_isub hx hb dX2_told_93 ?_
    refine mo_ald (v := ar 21 0) C hw hm 21 (by decide) (by decide) 0 (by rw [c1]; decide) (show 0 < 4 by omega) rfl dX2_told_94 ?_
    exact tf_reti C hw hr hlk dX2_told_95 (by first | exact Nat.le_of_ble_eq_true rfl | omega) (by first | exact Nat.le_of_ble_eq_true rfl | omega) (by refine ⟨?_, rfl⟩; rw [c1]; rfl)
  · refine lv_tableIn (tgt := 86) hx hb dX2_told_1 (by rw [c1]; decide) (by rw [c1]; decide) (off := 85) (by rw [c1]; rfl) (by decide) ?_
    refine lv_aload_n hx hb dX2_told_86 rfl (lv_at hl 0 rfl) ?_
    refine gf_X2_55 C hw hm.1 (v := .ref (ad 21)) rfl dX2_told_87 ?_
    refine lv_iload_n hx hb dX2_told_90 rfl (lv_at hl 1 rfl) ?_
    refine lv_bipush (v := 6) hx hb dX2_told_91 (by decide) ?_
    refine lv_isub hx hb dX2_told_93 ?_
    refine mo_ald (v := ar 21 1) C hw hm 21 (by decide) (by decide) 1 (by rw [c1]; decide) (show 1 < 4 by omega) rfl dX2_told_94 ?_
    exact tf_reti C hw hr hlk dX2_told_95 (by first | exact Nat.le_of_ble_eq_true rfl | omega) (by first | exact Nat.le_of_ble_eq_true rfl | omega) (by refine ⟨?_, rfl⟩; rw [c1]; rfl)
  · refine lv_tableIn (tgt := 86) hx hb dX2_told_1 (by rw [c1]; decide) (by rw [c1]; decide) (off := 85) (by rw [c1]; rfl) (by decide) ?_
    refine lv_aload_n hx hb dX2_told_86 rfl (lv_at hl 0 rfl) ?_
    refine gf_X2_55 C hw hm.1 (v := .ref (ad 21)) rfl dX2_told_87 ?_
    refine lv_iload_n hx hb dX2_told_90 rfl (lv_at hl 1 rfl) ?_
    refine lv_bipush (v := 6) hx hb dX2_told_91 (by decide) ?_
    refine lv_isub hx hb dX2_told_93 ?_
    refine mo_ald (v := ar 21 2) C hw hm 21 (by decide) (by decide) 2 (by rw [c1]; decide) (show 2 < 4 by omega) rfl dX2_told_94 ?_
    exact tf_reti C hw hr hlk dX2_told_95 (by first | exact Nat.le_of_ble_eq_true rfl | omega) (by first | exact Nat.le_of_ble_eq_true rfl | omega) (by refine ⟨?_, rfl⟩; rw [c1]; rfl)
  · refine lv_tableIn (tgt := 86) hx hb dX2_told_1 (by rw [c1]; decide) (by rw [c1]; decide) (off := 85) (by rw [c1]; rfl) (by decide) ?_
    refine lv_aload_n hx hb dX2_told_86 rfl (lv_at hl 0 rfl) ?_
    refine gf_X2_55 C hw hm.1 (v := .ref (ad 21)) rfl dX2_told_87 ?_
    refine lv_iload_n hx hb dX2_told_90 rfl (lv_at hl 1 rfl) ?_
    refine lv_bipush (v := 6) hx hb dX2_told_91 (by decide) ?_
    refine lv_isub hx hb dX2_told_93 ?_
    refine mo_ald (v := ar 21 3) C hw hm 21 (by decide) (by decide) 3 (by rw [c1]; decide) (show 3 < 4 by omega) rfl dX2_told_94 ?_
    exact tf_reti C hw hr hlk dX2_told_95 (by first | exact Nat.le_of_ble_eq_true rfl | omega) (by first | exact Nat.le_of_ble_eq_true rfl | omega) (by refine ⟨?_, rfl⟩; rw [c1]; rfl)
  · refine lv_tableOut (tgt := 96) hx hb dX2_told_1 c1 (by decide) ?_
    refine lv_bipush (v := (-2)) hx hb dX2_told_96 (by decide) ?_
    refine tf_reti C hw hr hlk dX2_told_98 (by first | exact Nat.le_of_ble_eq_true rfl | omega) (by first | exact Nat.le_of_ble_eq_true rfl | omega) ?_
    refine ⟨?_, rfl⟩
    have hne : ∀ j : Nat, j ≤ 9 → k ≠ nI j := fun j hj h => by rw [h, nI_toInt (by omega)] at c1; omega
    simp only [pm_told, if_neg (show ¬ k = 0 from hne 0 (by decide)), if_neg (show ¬ k = 1 from hne 1 (by decide)), if_neg (show ¬ k = 2 from hne 2 (by decide)), if_neg (show ¬ k = 3 from hne 3 (by decide)), if_neg (show ¬ k = 4 from hne 4 (by decide)), if_neg (show ¬ k = 5 from hne 5 (by decide)), if_neg (show ¬ k = 6 from hne 6 (by decide)), if_neg (show ¬ k = 7 from hne 7 (by decide)), if_neg (show ¬ k = 8 from hne 8 (by decide)), if_neg (show ¬ k = 9 from hne 9 (by decide))]

def pm_clr (f : Nat → Int32) (K i : Nat) : Nat → Int32 := fun j => if 40 * K ≤ j ∧ j < 40 * K + i then 0 else f j
theorem pm_clr0 (f : Nat → Int32) (K : Nat) : pm_clr f K 0 = f := by
  funext j
  simp only [pm_clr]
  rw [if_neg (by omega)]
theorem pm_clr1 (f : Nat → Int32) (K i : Nat) : upd (pm_clr f K i) (40 * K + i) 0 = pm_clr f K (i + 1) := by
  funext j
  simp only [upd, pm_clr]
  by_cases h : j = 40 * K + i
  · rw [if_pos h, if_pos (by omega)]
  · rw [if_neg h]
    by_cases h2 : 40 * K ≤ j ∧ j < 40 * K + i
    · rw [if_pos h2, if_pos (by omega)]
    · rw [if_neg h2, if_neg (by omega)]
def pm_sheet (iv : Nat → Int32) (ar : Nat → Nat → Int32) (k lane n : Int32) : Int32 × (Nat → Int32) × (Nat → Nat → Int32) := if pm_in k 0 3 then (if pm_in lane 0 2 && decide (n ≤ 40) then (if 0 ≤ n then (1, va_up iv 0 0, va_up (va_up (va_up ar 18 (upd (ar 18) k.toNatClampNeg lane)) 19 (upd (ar 19) k.toNatClampNeg n)) 20 (pm_clr (ar 20) k.toNatClampNeg 40)) else (-14, va_up (va_up iv 0 0) 0 4, ar)) else (-2, va_up iv 0 0, ar)) else (-1, va_up iv 0 0, ar)

set_option maxHeartbeats 4000000 in
set_option maxRecDepth 100000 in
theorem metX2_sheet {l : Launch} {S0 : State} {D : va_G} {dA : Nat → ClassId} (hB : tf_B S0 D dA) {sz : Nat} {G : tf_Pic} {mm : Nat} {ad : Nat → Nat} {iv : Nat → Int32} {ar : Nat → Nat → Int32} {fr : Nat → Int64} (hm : mo_W dA mm ad iv ar fr G) (k lane n : Int32) : Met l yX2_sheet (ws_ yX2_sheet cX2_sheet 5 (some .int)) (tf_rm 2 0 0) (tf_Pc S0 D sz G [.ref mm, .int k, .int lane, .int n]) (tf_Qi S0 D sz G (fun r G1 => ∃ iv1 ar1, (r, iv1, ar1) = pm_sheet iv ar k lane n ∧ mo_W dA mm ad iv1 ar1 fr G1)) 0 0 (tf_A G sz) := by
  refine Met.ofW (cc := cX2_sheet) (maxL := 5) (ret := (some .int)) (by decide) rfl ?_
  intro p e s m args below meth c s₁ B hml hv
  obtain ⟨C, hw, hr, hlk, hin, hargs⟩ := tf_enter hB B hml hv
  subst hargs
  have C : tf_C p s m ([.ref mm, .int k, .int lane, .int n] : List Value).toArray c cX2_sheet 5 RX2 S0 D dA := C
  have hx := C.hx
  have hb := C.hb
  change W p l e (tf_rm 2 0 0) s m ([.ref mm, .int k, .int lane, .int n] : List Value).toArray below meth c s.heap [] 0 0 (MQ below (tf_Qi S0 D sz G (fun r G1 => ∃ iv1 ar1, (r, iv1, ar1) = pm_sheet iv ar k lane n ∧ mo_W dA mm ad iv1 ar1 fr G1)) ([.ref mm, .int k, .int lane, .int n] : List Value).toArray s 0 0 (tf_A G sz)) (entryFrame m ([.ref mm, .int k, .int lane, .int n] : List Value).toArray 5)
  refine tf_start [.ref mm, .int k, .int lane, .int n] (Nat.le_of_ble_eq_true rfl) (fun ls hl => ?_)
  have hl : lv_has ls 5 [(0, .ref mm), (1, .int k), (2, .int lane), (3, .int n)] := hl
  refine lv_aload_n hx hb dX2_sheet_0 rfl (lv_at hl 0 rfl) ?_
  refine lv_iconst (v := 0) hx hb dX2_sheet_1 (by decide) ?_
  refine pf_X2_98 C hw hm.1 0 (Nat.le_of_ble_eq_true rfl) dX2_sheet_2 (mo_put hm 0 (by decide) (fun G1 H locs hm hw => ?_))
  refine lv_iload_n hx hb dX2_sheet_5 rfl (lv_at hl 1 rfl) ?_
  refine lv_iconst (v := 0) hx hb dX2_sheet_6 (by decide) ?_
  refine lv_iconst (v := 3) hx hb dX2_sheet_7 (by decide) ?_
  refine tf_goi (tf_S (n := 3) C hw [.int k, .int 0, .int 3] (metX2_within hB k 0 3) (lw_S q1052 q1053 q45 q1054) ⟨by decide, by decide, by decide +kernel⟩ ⟨rfl, rfl, Nat.le_of_ble_eq_true rfl, Nat.le_of_ble_eq_true rfl, (by first | exact Nat.le_of_ble_eq_true rfl | (show _ ≤ 0; omega)), (by first | exact Nat.le_of_ble_eq_true rfl | (show _ ≤ 0; omega))⟩ rfl hl rfl (Nat.le_of_ble_eq_true rfl) dX2_sheet_8) hw (fun r2 G2 H locs hp2 hw => ?_)
  obtain ⟨hre, hGe⟩ := hp2
  have hre : r2 = pt_b (pm_in k 0 3) := hre
  obtain rfl := hre.symm
  obtain rfl := hGe.symm
  refine lv_if_ne (tgt := 16) hx hb dX2_sheet_11 (by decide) (fun c11 => ?_) (fun c11 => ?_)
  · replace c11 := pt_b1 c11
    refine lv_iload_n hx hb dX2_sheet_16 rfl (lv_at hl 2 rfl) ?_
    refine lv_iconst (v := 0) hx hb dX2_sheet_17 (by decide) ?_
    refine lv_iconst (v := 2) hx hb dX2_sheet_18 (by decide) ?_
    refine tf_goi (tf_S (n := 3) C hw [.int lane, .int 0, .int 2] (metX2_within hB lane 0 2) (lw_S q1052 q1053 q45 q1054) ⟨by decide, by decide, by decide +kernel⟩ ⟨rfl, rfl, Nat.le_of_ble_eq_true rfl, Nat.le_of_ble_eq_true rfl, (by first | exact Nat.le_of_ble_eq_true rfl | (show _ ≤ 0; omega)), (by first | exact Nat.le_of_ble_eq_true rfl | (show _ ≤ 0; omega))⟩ rfl hl rfl (Nat.le_of_ble_eq_true rfl) dX2_sheet_19) hw (fun r3 G3 H locs hp3 hw => ?_)
    obtain ⟨hre, hGe⟩ := hp3
    have hre : r3 = pt_b (pm_in lane 0 2) := hre
    obtain rfl := hre.symm
    obtain rfl := hGe.symm
    refine lv_if_eq (tgt := 31) hx hb dX2_sheet_22 (by decide) (fun c22 => ?_) (fun c22 => ?_)
    · replace c22 := pt_b0 c22
      refine lv_bipush (v := (-2)) hx hb dX2_sheet_31 (by decide) ?_
      exact tf_reti C hw hr hlk dX2_sheet_33 (by first | exact Nat.le_of_ble_eq_true rfl | omega) (by first | exact Nat.le_of_ble_eq_true rfl | omega) (by refine ⟨_, _, ?_, hm⟩; simp [pm_sheet, c11, c22])
    · replace c22 := pt_b1 c22
      refine lv_iload_n hx hb dX2_sheet_25 rfl (lv_at hl 3 rfl) ?_
      refine lv_bipush (v := 40) hx hb dX2_sheet_26 (by decide) ?_
      refine lv_icmp_le (tgt := 34) hx hb dX2_sheet_28 (by decide) (fun c28 => ?_) (fun c28 => ?_)
      · refine lv_iload_n hx hb dX2_sheet_34 rfl (lv_at hl 3 rfl) ?_
        refine lv_if_ge (tgt := 44) hx hb dX2_sheet_35 (by decide) (fun c35 => ?_) (fun c35 => ?_)
        · obtain ⟨K, hKb, hK, hKc⟩ := pm_cl (n := 3) (by decide) c11
          rw [hK] at hl
          refine lv_aload_n hx hb dX2_sheet_44 rfl (lv_at hl 0 rfl) ?_
          refine gf_X2_46 C hw hm.1 (v := .ref (ad 18)) rfl dX2_sheet_45 ?_
          refine lv_iload_n hx hb dX2_sheet_48 rfl (lv_at hl 1 rfl) ?_
          refine lv_iload_n hx hb dX2_sheet_49 rfl (lv_at hl 2 rfl) ?_
          refine mo_ast C hw hm 18 (by decide) (by decide) (ar 18) rfl K rfl (show K < 4 by omega) dX2_sheet_50 (fun G4 H locs hm hw => ?_)
          refine lv_aload_n hx hb dX2_sheet_51 rfl (lv_at hl 0 rfl) ?_
          refine gf_X2_49 C hw hm.1 (v := .ref (ad 19)) rfl dX2_sheet_52 ?_
          refine lv_iload_n hx hb dX2_sheet_55 rfl (lv_at hl 1 rfl) ?_
          refine lv_iload_n hx hb dX2_sheet_56 rfl (lv_at hl 3 rfl) ?_
          refine mo_ast C hw hm 19 (by decide) (by decide) (ar 19) rfl K rfl (show K < 4 by omega) dX2_sheet_57 (fun G5 H locs hm hw => ?_)
          refine lv_iconst (v := 0) hx hb dX2_sheet_58 (by decide) ?_
          refine lv_istore (lv' := [(4, .int 0), (0, .ref mm), (1, .int (nI K)), (2, .int lane), (3, .int n)]) hx hb dX2_sheet_59 hl (by decide) rfl (fun ls hl => ?_)
          have hm := mo_eq (va_up_eq20 (va_up (va_up ar 18 (upd (ar 18) K lane)) 19 (upd (ar 19) K n)) (pm_clr0 (ar 20) K)) hm
          have b61 : ∀ (fuel : Nat) (i : Nat) (Gx : tf_Pic), 40 - i < fuel → (i ≤ 40) → (mo_W dA mm ad (va_up iv 0 0) (va_up (va_up (va_up ar 18 (upd (ar 18) K lane)) 19 (upd (ar 19) K n)) 20 (pm_clr (ar 20) K i)) fr Gx) → ∀ (H : Heap) (locs : List Loc), tf_Wd S0 D (tf_A G sz) s.heap Gx H locs → ∀ (ls : Array Slot), lv_has ls 5 [(4, .int (nI i)), (0, .ref mm), (1, .int (nI K)), (2, .int lane), (3, .int n)] → W p l e (tf_rm 2 0 0) s m ([.ref mm, .int k, .int lane, .int n] : List Value).toArray below meth c H locs 0 0 (MQ below (tf_Qi S0 D sz G (fun r G1 => ∃ iv1 ar1, (r, iv1, ar1) = pm_sheet iv ar k lane n ∧ mo_W dA mm ad iv1 ar1 fr G1)) ([.ref mm, .int k, .int lane, .int n] : List Value).toArray s 0 0 (tf_A G sz)) (F0 m 61 ls []) := by
            intro fuel61
            induction fuel61 with
            | zero => intro i Gx hfu61; exact absurd hfu61 (Nat.not_lt_zero _)
            | succ fuel61 ih61 =>
              intro i Gx hfu61 hi hm H locs hw ls hl
              refine lv_iload hx hb dX2_sheet_61 (lv_at hl 0 rfl) ?_
              refine lv_bipush (v := 40) hx hb dX2_sheet_63 (by decide) ?_
              refine tf_icmp_geN hx hb i 40 rfl rfl (tgt := 87) dX2_sheet_65 (by decide) (by omega) (by omega) (fun c65 => ?_) (fun c65 => ?_)
              · refine lv_iconst (v := 1) hx hb dX2_sheet_87 (by decide) ?_
                exact tf_reti C hw hr hlk dX2_sheet_88 (by first | exact Nat.le_of_ble_eq_true rfl | omega) (by first | exact Nat.le_of_ble_eq_true rfl | omega) (by refine ⟨_, _, ?_, hm⟩; simp [pm_sheet, c11, c22, c28, c35, hKc, show i = 40 by omega])
              · refine lv_aload_n hx hb dX2_sheet_68 rfl (lv_at hl 1 rfl) ?_
                refine gf_X2_52 C hw hm.1 (v := .ref (ad 20)) rfl dX2_sheet_69 ?_
                refine lv_bipush (v := 40) hx hb dX2_sheet_72 (by decide) ?_
                refine lv_iload_n hx hb dX2_sheet_74 rfl (lv_at hl 2 rfl) ?_
                refine tf_imulN hx hb 40 K rfl rfl dX2_sheet_75 ?_
                refine lv_iload hx hb dX2_sheet_76 (lv_at hl 0 rfl) ?_
                refine tf_iaddN hx hb (40 * K) i rfl rfl dX2_sheet_78 ?_
                refine lv_iconst (v := 0) hx hb dX2_sheet_79 (by decide) ?_
                refine mo_ast C hw hm 20 (by decide) (by decide) (pm_clr (ar 20) K i) rfl ((40 * K) + i) rfl (show (40 * K) + i < 160 by omega) dX2_sheet_80 (fun G6 H locs hm hw => ?_)
                refine lv_iinc (v := nI (i + 1)) (lv' := [(4, .int (nI (i + 1))), (0, .ref mm), (1, .int (nI K)), (2, .int lane), (3, .int n)]) hx hb dX2_sheet_81 hl (k := 0) rfl (nI_1 _) (by decide) rfl (fun ls hl => ?_)
                refine lv_goto (tgt := 61) hx hb dX2_sheet_84 (by decide) ?_
                have hm := mo_eq (va_up_uu _ 20 (pm_clr1 (ar 20) K i)) hm
                exact ih61 (i + 1) _ (by omega) (by omega) hm _ _ hw ls hl
          exact b61 41 0 _ (by omega) (Nat.zero_le _) hm _ _ hw ls hl
        · refine lv_aload_n hx hb dX2_sheet_38 rfl (lv_at hl 0 rfl) ?_
          refine lv_iconst (v := 4) hx hb dX2_sheet_39 (by decide) ?_
          refine tf_goi (tf_V (n := 1) C hw hm.1 rfl [.int 4] (metX2_fails hB hm 4) (lw_V q1075 q1077 qs22 q45 q1078) rfl ⟨by decide, by decide, by decide +kernel⟩ ⟨rfl, rfl, Nat.le_of_ble_eq_true rfl, Nat.le_of_ble_eq_true rfl, (by first | exact Nat.le_of_ble_eq_true rfl | (show _ ≤ 0; omega)), (by first | exact Nat.le_of_ble_eq_true rfl | (show _ ≤ 0; omega))⟩ rfl hl rfl (Nat.le_of_ble_eq_true rfl) dX2_sheet_40) hw (fun r7 G7 H locs hp7 hw => ?_)
          obtain ⟨hre, hm⟩ := hp7
          obtain rfl := hre.symm
          exact tf_reti C hw hr hlk dX2_sheet_43 (by first | exact Nat.le_of_ble_eq_true rfl | omega) (by first | exact Nat.le_of_ble_eq_true rfl | omega) (by refine ⟨_, _, ?_, hm⟩; simp [pm_sheet, c11, c22, c28, c35])
      · refine lv_bipush (v := (-2)) hx hb dX2_sheet_31 (by decide) ?_
        exact tf_reti C hw hr hlk dX2_sheet_33 (by first | exact Nat.le_of_ble_eq_true rfl | omega) (by first | exact Nat.le_of_ble_eq_true rfl | omega) (by refine ⟨_, _, ?_, hm⟩; simp [pm_sheet, c11, c22, c28])
  · replace c11 := pt_b0 c11
    refine lv_iconst (v := (-1)) hx hb dX2_sheet_14 (by decide) ?_
    exact tf_reti C hw hr hlk dX2_sheet_15 (by first | exact Nat.le_of_ble_eq_true rfl | omega) (by first | exact Nat.le_of_ble_eq_true rfl | omega) (by refine ⟨_, _, ?_, hm⟩; simp [pm_sheet, c11])

def pm_put (iv : Nat → Int32) (ar : Nat → Nat → Int32) (k i v : Int32) : Int32 × (Nat → Int32) × (Nat → Nat → Int32) := if pm_in k 0 3 then (if ar 18 k.toNatClampNeg = -9 then (-11, va_up (va_up iv 0 0) 0 1, ar) else if pm_in i 0 (ar 19 k.toNatClampNeg - 1) then (1, va_up iv 0 0, va_up ar 20 (upd (ar 20) (40 * k.toNatClampNeg + i.toNatClampNeg) (if ar 18 k.toNatClampNeg = 0 then v.toInt8.toInt32 else if ar 18 k.toNatClampNeg = 1 then v.toInt16.toInt32 else v))) else (-13, va_up (va_up iv 0 0) 0 3, ar)) else (-1, va_up iv 0 0, ar)
def pm_at (iv : Nat → Int32) (ar : Nat → Nat → Int32) (k i lane : Int32) : Int64 × (Nat → Int32) := if pm_in k 0 3 && pm_in lane 0 2 then (if ar 18 k.toNatClampNeg = -9 then (-9223372036854775808, va_up (va_up iv 0 0) 0 1) else if ar 18 k.toNatClampNeg = lane then (if pm_in i 0 (ar 19 k.toNatClampNeg - 1) then ((ar 20 (40 * k.toNatClampNeg + i.toNatClampNeg)).toInt64, va_up iv 0 0) else (-9223372036854775808, va_up (va_up iv 0 0) 0 3)) else (-9223372036854775808, va_up (va_up iv 0 0) 0 2)) else (-9223372036854775808, va_up iv 0 0)
def pm_tell (iv : Nat → Int32) (ar : Nat → Nat → Int32) (h : Int32) : Int32 × (Nat → Int32) := if pm_of h (iv 5) then (if pm_kind ar h.toNatClampNeg = 1 then (16 * ar 9 h.toNatClampNeg + ar 8 h.toNatClampNeg, va_up (va_up iv 1 (31 * iv 1 + 2)) 1 (31 * (31 * iv 1 + 2) + 1)) else if pm_kind ar h.toNatClampNeg = 3 then (ar 8 h.toNatClampNeg - 9, va_up (va_up iv 1 (31 * iv 1 + 3)) 1 (31 * (31 * iv 1 + 3) + 1)) else (ar 8 h.toNatClampNeg, va_up iv 1 (31 * iv 1 + 1))) else (-1, iv)
def pm_weigh (iv : Nat → Int32) (ar : Nat → Nat → Int32) (h : Int32) : Int32 × (Nat → Int32) := if pm_of h (iv 5) then (if pm_kind ar h.toNatClampNeg < 2 then (pm_amt ar h.toNatClampNeg + pm_kind ar h.toNatClampNeg, va_up iv 1 (31 * iv 1 + 4)) else (0, va_up iv 1 (31 * iv 1 + 5))) else (-1, iv)
def pm_as (iv : Nat → Int32) (ar : Nat → Nat → Int32) (h kd : Int32) : Int32 × (Nat → Int32) := if pm_of h (iv 5) then (if pm_in kd 0 3 then (if kd = 0 ∨ kd = pm_kind ar h.toNatClampNeg ∨ (kd = 2 ∧ pm_kind ar h.toNatClampNeg = 3) then (1, va_up iv 0 0) else (-12, va_up (va_up iv 0 0) 0 2)) else (-2, va_up iv 0 0)) else (-1, va_up iv 0 0)

set_option maxHeartbeats 4000000 in
set_option maxRecDepth 100000 in
theorem metX2_put {l : Launch} {S0 : State} {D : va_G} {dA : Nat → ClassId} (hB : tf_B S0 D dA) {sz : Nat} {G : tf_Pic} {mm : Nat} {ad : Nat → Nat} {iv : Nat → Int32} {ar : Nat → Nat → Int32} {fr : Nat → Int64} (hm : mo_W dA mm ad iv ar fr G) {sl : Nat → Nat} (hsl : ∀ j, j < 4 → ar 19 j = nI (sl j) ∧ sl j ≤ 40) (k i v : Int32) : Met l yX2_put (ws_ yX2_put cX2_put 4 (some .int)) (tf_rm 2 0 0) (tf_Pc S0 D sz G [.ref mm, .int k, .int i, .int v]) (tf_Qi S0 D sz G (fun r G1 => ∃ iv1 ar1, (r, iv1, ar1) = pm_put iv ar k i v ∧ mo_W dA mm ad iv1 ar1 fr G1)) 0 0 (tf_A G sz) := by
  refine Met.ofW (cc := cX2_put) (maxL := 4) (ret := (some .int)) (by decide) rfl ?_
  intro p e s m args below meth c s₁ B hml hv
  obtain ⟨C, hw, hr, hlk, hin, hargs⟩ := tf_enter hB B hml hv
  subst hargs
  have C : tf_C p s m ([.ref mm, .int k, .int i, .int v] : List Value).toArray c cX2_put 4 RX2 S0 D dA := C
  have hx := C.hx
  have hb := C.hb
  change W p l e (tf_rm 2 0 0) s m ([.ref mm, .int k, .int i, .int v] : List Value).toArray below meth c s.heap [] 0 0 (MQ below (tf_Qi S0 D sz G (fun r G1 => ∃ iv1 ar1, (r, iv1, ar1) = pm_put iv ar k i v ∧ mo_W dA mm ad iv1 ar1 fr G1)) ([.ref mm, .int k, .int i, .int v] : List Value).toArray s 0 0 (tf_A G sz)) (entryFrame m ([.ref mm, .int k, .int i, .int v] : List Value).toArray 4)
  refine tf_start [.ref mm, .int k, .int i, .int v] (Nat.le_of_ble_eq_true rfl) (fun ls hl => ?_)
  have hl : lv_has ls 4 [(0, .ref mm), (1, .int k), (2, .int i), (3, .int v)] := hl
  refine lv_aload_n hx hb dX2_put_0 rfl (lv_at hl 0 rfl) ?_
  refine lv_iconst (v := 0) hx hb dX2_put_1 (by decide) ?_
  refine pf_X2_98 C hw hm.1 0 (Nat.le_of_ble_eq_true rfl) dX2_put_2 (mo_put hm 0 (by decide) (fun G1 H locs hm hw => ?_))
  refine lv_iload_n hx hb dX2_put_5 rfl (lv_at hl 1 rfl) ?_
  refine lv_iconst (v := 0) hx hb dX2_put_6 (by decide) ?_
  refine lv_iconst (v := 3) hx hb dX2_put_7 (by decide) ?_
  refine tf_goi (tf_S (n := 3) C hw [.int k, .int 0, .int 3] (metX2_within hB k 0 3) (lw_S q1052 q1053 q45 q1054) ⟨by decide, by decide, by decide +kernel⟩ ⟨rfl, rfl, Nat.le_of_ble_eq_true rfl, Nat.le_of_ble_eq_true rfl, (by first | exact Nat.le_of_ble_eq_true rfl | (show _ ≤ 0; omega)), (by first | exact Nat.le_of_ble_eq_true rfl | (show _ ≤ 0; omega))⟩ rfl hl rfl (Nat.le_of_ble_eq_true rfl) dX2_put_8) hw (fun r2 G2 H locs hp2 hw => ?_)
  obtain ⟨hre, hGe⟩ := hp2
  have hre : r2 = pt_b (pm_in k 0 3) := hre
  obtain rfl := hre.symm
  obtain rfl := hGe.symm
  refine lv_if_ne (tgt := 16) hx hb dX2_put_11 (by decide) (fun c11 => ?_) (fun c11 => ?_)
  · replace c11 := pt_b1 c11
    obtain ⟨K, hKb, hK, hKc⟩ := pm_cl (n := 3) (by decide) c11
    rw [hK] at hl
    refine lv_aload_n hx hb dX2_put_16 rfl (lv_at hl 0 rfl) ?_
    refine gf_X2_46 C hw hm.1 (v := .ref (ad 18)) rfl dX2_put_17 ?_
    refine lv_iload_n hx hb dX2_put_20 rfl (lv_at hl 1 rfl) ?_
    refine mo_ald (v := ar 18 K) C hw hm 18 (by decide) (by decide) K rfl (show K < 4 by omega) rfl dX2_put_21 ?_
    refine lv_bipush (v := (-9)) hx hb dX2_put_22 (by decide) ?_
    refine lv_icmp_ne (tgt := 33) hx hb dX2_put_24 (by decide) (fun c24 => ?_) (fun c24 => ?_)
    · refine lv_iload_n hx hb dX2_put_33 rfl (lv_at hl 2 rfl) ?_
      refine lv_iconst (v := 0) hx hb dX2_put_34 (by decide) ?_
      refine lv_aload_n hx hb dX2_put_35 rfl (lv_at hl 0 rfl) ?_
      refine gf_X2_49 C hw hm.1 (v := .ref (ad 19)) rfl dX2_put_36 ?_
      refine lv_iload_n hx hb dX2_put_39 rfl (lv_at hl 1 rfl) ?_
      refine mo_ald (v := nI (sl K)) C hw hm 19 (by decide) (by decide) K rfl (show K < 4 by omega) (hsl K (by omega)).1 dX2_put_40 ?_
      refine lv_iconst (v := 1) hx hb dX2_put_41 (by decide) ?_
      refine lv_isub hx hb dX2_put_42 ?_
      refine tf_goi (tf_S (n := 3) C hw [.int i, .int 0, .int ((nI (sl K)) - 1)] (metX2_within hB i 0 ((nI (sl K)) - 1)) (lw_S q1052 q1053 q45 q1054) ⟨by decide, by decide, by decide +kernel⟩ ⟨rfl, rfl, Nat.le_of_ble_eq_true rfl, Nat.le_of_ble_eq_true rfl, (by first | exact Nat.le_of_ble_eq_true rfl | (show _ ≤ 0; omega)), (by first | exact Nat.le_of_ble_eq_true rfl | (show _ ≤ 0; omega))⟩ rfl hl rfl (Nat.le_of_ble_eq_true rfl) dX2_put_43) hw (fun r3 G3 H locs hp3 hw => ?_)
      obtain ⟨hre, hGe⟩ := hp3
      have hre : r3 = pt_b (pm_in i 0 ((nI (sl K)) - 1)) := hre
      obtain rfl := hre.symm
      obtain rfl := hGe.symm
      refine lv_if_ne (tgt := 55) hx hb dX2_put_46 (by decide) (fun c46 => ?_) (fun c46 => ?_)
      · replace c46 := pt_b1 c46
        obtain ⟨I, hIb, hI, hIc⟩ := pm_cl1 (n := sl K) (by have := (hsl K (by omega)).2; omega) c46
        have hsK := (hsl K (by omega)).2
        rw [hI] at hl
        refine lv_aload_n hx hb dX2_put_55 rfl (lv_at hl 0 rfl) ?_
        refine gf_X2_52 C hw hm.1 (v := .ref (ad 20)) rfl dX2_put_56 ?_
        refine lv_bipush (v := 40) hx hb dX2_put_59 (by decide) ?_
        refine lv_iload_n hx hb dX2_put_61 rfl (lv_at hl 1 rfl) ?_
        refine tf_imulN hx hb 40 K rfl rfl dX2_put_62 ?_
        refine lv_iload_n hx hb dX2_put_63 rfl (lv_at hl 2 rfl) ?_
        refine tf_iaddN hx hb (40 * K) I rfl rfl dX2_put_64 ?_
        refine lv_aload_n hx hb dX2_put_65 rfl (lv_at hl 0 rfl) ?_
        refine gf_X2_46 C hw hm.1 (v := .ref (ad 18)) rfl dX2_put_66 ?_
        refine lv_iload_n hx hb dX2_put_69 rfl (lv_at hl 1 rfl) ?_
        refine mo_ald (v := ar 18 K) C hw hm 18 (by decide) (by decide) K rfl (show K < 4 by omega) rfl dX2_put_70 ?_
        refine lv_if_ne (tgt := 79) hx hb dX2_put_71 (by decide) (fun c71 => ?_) (fun c71 => ?_)
        · refine lv_aload_n hx hb dX2_put_79 rfl (lv_at hl 0 rfl) ?_
          refine gf_X2_46 C hw hm.1 (v := .ref (ad 18)) rfl dX2_put_80 ?_
          refine lv_iload_n hx hb dX2_put_83 rfl (lv_at hl 1 rfl) ?_
          refine mo_ald (v := ar 18 K) C hw hm 18 (by decide) (by decide) K rfl (show K < 4 by omega) rfl dX2_put_84 ?_
          refine lv_iconst (v := 1) hx hb dX2_put_85 (by decide) ?_
          refine lv_icmp_ne (tgt := 94) hx hb dX2_put_86 (by decide) (fun c86 => ?_) (fun c86 => ?_)
          · refine lv_iload_n hx hb dX2_put_94 rfl (lv_at hl 3 rfl) ?_
            refine mo_ast C hw hm 20 (by decide) (by decide) (ar 20) rfl ((40 * K) + I) rfl (show (40 * K) + I < 160 by omega) dX2_put_95 (fun G4 H locs hm hw => ?_)
            refine lv_iconst (v := 1) hx hb dX2_put_96 (by decide) ?_
            exact tf_reti C hw hr hlk dX2_put_97 (by first | exact Nat.le_of_ble_eq_true rfl | omega) (by first | exact Nat.le_of_ble_eq_true rfl | omega) (by refine ⟨_, _, ?_, hm⟩; simp [pm_put, c11, c24, c46, c71, c86, hKc, (hsl K (by omega)).1, hIc])
          · refine lv_iload_n hx hb dX2_put_89 rfl (lv_at hl 3 rfl) ?_
            refine lv_i2s hx hb dX2_put_90 rfl ?_
            refine lv_goto (tgt := 95) hx hb dX2_put_91 (by decide) ?_
            refine mo_ast C hw hm 20 (by decide) (by decide) (ar 20) rfl ((40 * K) + I) rfl (show (40 * K) + I < 160 by omega) dX2_put_95 (fun G5 H locs hm hw => ?_)
            refine lv_iconst (v := 1) hx hb dX2_put_96 (by decide) ?_
            exact tf_reti C hw hr hlk dX2_put_97 (by first | exact Nat.le_of_ble_eq_true rfl | omega) (by first | exact Nat.le_of_ble_eq_true rfl | omega) (by refine ⟨_, _, ?_, hm⟩; simp [pm_put, c11, c24, c46, c71, c86, hKc, (hsl K (by omega)).1, hIc])
        · refine lv_iload_n hx hb dX2_put_74 rfl (lv_at hl 3 rfl) ?_
          refine lv_i2b hx hb dX2_put_75 rfl ?_
          refine lv_goto (tgt := 95) hx hb dX2_put_76 (by decide) ?_
          refine mo_ast C hw hm 20 (by decide) (by decide) (ar 20) rfl ((40 * K) + I) rfl (show (40 * K) + I < 160 by omega) dX2_put_95 (fun G6 H locs hm hw => ?_)
          refine lv_iconst (v := 1) hx hb dX2_put_96 (by decide) ?_
          exact tf_reti C hw hr hlk dX2_put_97 (by first | exact Nat.le_of_ble_eq_true rfl | omega) (by first | exact Nat.le_of_ble_eq_true rfl | omega) (by refine ⟨_, _, ?_, hm⟩; simp [pm_put, c11, c24, c46, c71, hKc, (hsl K (by omega)).1, hIc])
      · replace c46 := pt_b0 c46
        refine lv_aload_n hx hb dX2_put_49 rfl (lv_at hl 0 rfl) ?_
        refine lv_iconst (v := 3) hx hb dX2_put_50 (by decide) ?_
        refine tf_goi (tf_V (n := 1) C hw hm.1 rfl [.int 3] (metX2_fails hB hm 3) (lw_V q1075 q1077 qs22 q45 q1078) rfl ⟨by decide, by decide, by decide +kernel⟩ ⟨rfl, rfl, Nat.le_of_ble_eq_true rfl, Nat.le_of_ble_eq_true rfl, (by first | exact Nat.le_of_ble_eq_true rfl | (show _ ≤ 0; omega)), (by first | exact Nat.le_of_ble_eq_true rfl | (show _ ≤ 0; omega))⟩ rfl hl rfl (Nat.le_of_ble_eq_true rfl) dX2_put_51) hw (fun r7 G7 H locs hp7 hw => ?_)
        obtain ⟨hre, hm⟩ := hp7
        obtain rfl := hre.symm
        exact tf_reti C hw hr hlk dX2_put_54 (by first | exact Nat.le_of_ble_eq_true rfl | omega) (by first | exact Nat.le_of_ble_eq_true rfl | omega) (by refine ⟨_, _, ?_, hm⟩; simp [pm_put, c11, c24, c46, hKc, (hsl K (by omega)).1])
    · refine lv_aload_n hx hb dX2_put_27 rfl (lv_at hl 0 rfl) ?_
      refine lv_iconst (v := 1) hx hb dX2_put_28 (by decide) ?_
      refine tf_goi (tf_V (n := 1) C hw hm.1 rfl [.int 1] (metX2_fails hB hm 1) (lw_V q1075 q1077 qs22 q45 q1078) rfl ⟨by decide, by decide, by decide +kernel⟩ ⟨rfl, rfl, Nat.le_of_ble_eq_true rfl, Nat.le_of_ble_eq_true rfl, (by first | exact Nat.le_of_ble_eq_true rfl | (show _ ≤ 0; omega)), (by first | exact Nat.le_of_ble_eq_true rfl | (show _ ≤ 0; omega))⟩ rfl hl rfl (Nat.le_of_ble_eq_true rfl) dX2_put_29) hw (fun r8 G8 H locs hp8 hw => ?_)
      obtain ⟨hre, hm⟩ := hp8
      obtain rfl := hre.symm
      exact tf_reti C hw hr hlk dX2_put_32 (by first | exact Nat.le_of_ble_eq_true rfl | omega) (by first | exact Nat.le_of_ble_eq_true rfl | omega) (by refine ⟨_, _, ?_, hm⟩; simp [pm_put, c11, c24, hKc, (hsl K (by omega)).1])
  · replace c11 := pt_b0 c11
    refine lv_iconst (v := (-1)) hx hb dX2_put_14 (by decide) ?_
    exact tf_reti C hw hr hlk dX2_put_15 (by first | exact Nat.le_of_ble_eq_true rfl | omega) (by first | exact Nat.le_of_ble_eq_true rfl | omega) (by refine ⟨_, _, ?_, hm⟩; simp [pm_put, c11])

set_option maxHeartbeats 4000000 in
set_option maxRecDepth 100000 in
theorem metX2_at {l : Launch} {S0 : State} {D : va_G} {dA : Nat → ClassId} (hB : tf_B S0 D dA) {sz : Nat} {G : tf_Pic} {mm : Nat} {ad : Nat → Nat} {iv : Nat → Int32} {ar : Nat → Nat → Int32} {fr : Nat → Int64} (hm : mo_W dA mm ad iv ar fr G) {sl : Nat → Nat} (hsl : ∀ j, j < 4 → ar 19 j = nI (sl j) ∧ sl j ≤ 40) (k i lane : Int32) : Met l yX2_at (ws_ yX2_at cX2_at 4 (some .long)) (tf_rm 2 0 0) (tf_Pc S0 D sz G [.ref mm, .int k, .int i, .int lane]) (tf_Ql S0 D sz G (fun r G1 => ∃ iv1, (r, iv1) = pm_at iv ar k i lane ∧ mo_W dA mm ad iv1 ar fr G1)) 0 0 (tf_A G sz) := by
  refine Met.ofW (cc := cX2_at) (maxL := 4) (ret := (some .long)) (by decide) rfl ?_
  intro p e s m args below meth c s₁ B hml hv
  obtain ⟨C, hw, hr, hlk, hin, hargs⟩ := tf_enter hB B hml hv
  subst hargs
  have C : tf_C p s m ([.ref mm, .int k, .int i, .int lane] : List Value).toArray c cX2_at 4 RX2 S0 D dA := C
  have hx := C.hx
  have hb := C.hb
  change W p l e (tf_rm 2 0 0) s m ([.ref mm, .int k, .int i, .int lane] : List Value).toArray below meth c s.heap [] 0 0 (MQ below (tf_Ql S0 D sz G (fun r G1 => ∃ iv1, (r, iv1) = pm_at iv ar k i lane ∧ mo_W dA mm ad iv1 ar fr G1)) ([.ref mm, .int k, .int i, .int lane] : List Value).toArray s 0 0 (tf_A G sz)) (entryFrame m ([.ref mm, .int k, .int i, .int lane] : List Value).toArray 4)
  refine tf_start [.ref mm, .int k, .int i, .int lane] (Nat.le_of_ble_eq_true rfl) (fun ls hl => ?_)
  have hl : lv_has ls 4 [(0, .ref mm), (1, .int k), (2, .int i), (3, .int lane)] := hl
  refine lv_aload_n hx hb dX2_at_0 rfl (lv_at hl 0 rfl) ?_
  refine lv_iconst (v := 0) hx hb dX2_at_1 (by decide) ?_
  refine pf_X2_98 C hw hm.1 0 (Nat.le_of_ble_eq_true rfl) dX2_at_2 (mo_put hm 0 (by decide) (fun G1 H locs hm hw => ?_))
  refine lv_iload_n hx hb dX2_at_5 rfl (lv_at hl 1 rfl) ?_
  refine lv_iconst (v := 0) hx hb dX2_at_6 (by decide) ?_
  refine lv_iconst (v := 3) hx hb dX2_at_7 (by decide) ?_
  refine tf_goi (tf_S (n := 3) C hw [.int k, .int 0, .int 3] (metX2_within hB k 0 3) (lw_S q1052 q1053 q45 q1054) ⟨by decide, by decide, by decide +kernel⟩ ⟨rfl, rfl, Nat.le_of_ble_eq_true rfl, Nat.le_of_ble_eq_true rfl, (by first | exact Nat.le_of_ble_eq_true rfl | (show _ ≤ 0; omega)), (by first | exact Nat.le_of_ble_eq_true rfl | (show _ ≤ 0; omega))⟩ rfl hl rfl (Nat.le_of_ble_eq_true rfl) dX2_at_8) hw (fun r2 G2 H locs hp2 hw => ?_)
  obtain ⟨hre, hGe⟩ := hp2
  have hre : r2 = pt_b (pm_in k 0 3) := hre
  obtain rfl := hre.symm
  obtain rfl := hGe.symm
  refine lv_if_eq (tgt := 23) hx hb dX2_at_11 (by decide) (fun c11 => ?_) (fun c11 => ?_)
  · replace c11 := pt_b0 c11
    refine lv_ldc2 (v := (-9223372036854775808)) hx hb C.hown (C.hts _ q1124) dX2_at_23 ?_
    exact tf_retl C hw hr hlk dX2_at_26 (by first | exact Nat.le_of_ble_eq_true rfl | omega) (by first | exact Nat.le_of_ble_eq_true rfl | omega) (by refine ⟨_, ?_, hm⟩; simp [pm_at, c11])
  · replace c11 := pt_b1 c11
    refine lv_iload_n hx hb dX2_at_14 rfl (lv_at hl 3 rfl) ?_
    refine lv_iconst (v := 0) hx hb dX2_at_15 (by decide) ?_
    refine lv_iconst (v := 2) hx hb dX2_at_16 (by decide) ?_
    refine tf_goi (tf_S (n := 3) C hw [.int lane, .int 0, .int 2] (metX2_within hB lane 0 2) (lw_S q1052 q1053 q45 q1054) ⟨by decide, by decide, by decide +kernel⟩ ⟨rfl, rfl, Nat.le_of_ble_eq_true rfl, Nat.le_of_ble_eq_true rfl, (by first | exact Nat.le_of_ble_eq_true rfl | (show _ ≤ 0; omega)), (by first | exact Nat.le_of_ble_eq_true rfl | (show _ ≤ 0; omega))⟩ rfl hl rfl (Nat.le_of_ble_eq_true rfl) dX2_at_17) hw (fun r3 G3 H locs hp3 hw => ?_)
    obtain ⟨hre, hGe⟩ := hp3
    have hre : r3 = pt_b (pm_in lane 0 2) := hre
    obtain rfl := hre.symm
    obtain rfl := hGe.symm
    refine lv_if_ne (tgt := 27) hx hb dX2_at_20 (by decide) (fun c20 => ?_) (fun c20 => ?_)
    · replace c20 := pt_b1 c20
      obtain ⟨K, hKb, hK, hKc⟩ := pm_cl (n := 3) (by decide) c11
      rw [hK] at hl
      refine lv_aload_n hx hb dX2_at_27 rfl (lv_at hl 0 rfl) ?_
      refine gf_X2_46 C hw hm.1 (v := .ref (ad 18)) rfl dX2_at_28 ?_
      refine lv_iload_n hx hb dX2_at_31 rfl (lv_at hl 1 rfl) ?_
      refine mo_ald (v := ar 18 K) C hw hm 18 (by decide) (by decide) K rfl (show K < 4 by omega) rfl dX2_at_32 ?_
      refine lv_bipush (v := (-9)) hx hb dX2_at_33 (by decide) ?_
      refine lv_icmp_eq (tgt := 54) hx hb dX2_at_35 (by decide) (fun c35 => ?_) (fun c35 => ?_)
      · refine lv_aload_n hx hb dX2_at_54 rfl (lv_at hl 0 rfl) ?_
        refine gf_X2_46 C hw hm.1 (v := .ref (ad 18)) rfl dX2_at_55 ?_
        refine lv_iload_n hx hb dX2_at_58 rfl (lv_at hl 1 rfl) ?_
        refine mo_ald (v := ar 18 K) C hw hm 18 (by decide) (by decide) K rfl (show K < 4 by omega) rfl dX2_at_59 ?_
        refine lv_bipush (v := (-9)) hx hb dX2_at_60 (by decide) ?_
        refine lv_icmp_ne (tgt := 71) hx hb dX2_at_62 (by decide) (fun c62 => absurd c62 (not_not_intro c35)) (fun c62 => ?_)
        refine lv_aload_n hx hb dX2_at_65 rfl (lv_at hl 0 rfl) ?_
        refine lv_iconst (v := 1) hx hb dX2_at_66 (by decide) ?_
        refine tf_gol (tf_V (n := 1) C hw hm.1 rfl [.int 1] (metX2_lost hB hm 1) (lw_V q1236 q1238 qs40 q45 q1239) rfl ⟨by decide, by decide, by decide +kernel⟩ ⟨rfl, rfl, Nat.le_of_ble_eq_true rfl, Nat.le_of_ble_eq_true rfl, (by first | exact Nat.le_of_ble_eq_true rfl | (show _ ≤ 0; omega)), (by first | exact Nat.le_of_ble_eq_true rfl | (show _ ≤ 0; omega))⟩ rfl hl rfl (Nat.le_of_ble_eq_true rfl) dX2_at_67) hw (fun r4 G4 H locs hp4 hw => ?_)
        obtain ⟨hre, hm⟩ := hp4
        obtain rfl := hre.symm
        exact tf_retl C hw hr hlk dX2_at_70 (by first | exact Nat.le_of_ble_eq_true rfl | omega) (by first | exact Nat.le_of_ble_eq_true rfl | omega) (by refine ⟨_, ?_, hm⟩; simp only [pm_at, c11, c20, Bool.and_self, if_true, hKc]; rw [if_pos c35])
      · refine lv_aload_n hx hb dX2_at_38 rfl (lv_at hl 0 rfl) ?_
        refine gf_X2_46 C hw hm.1 (v := .ref (ad 18)) rfl dX2_at_39 ?_
        refine lv_iload_n hx hb dX2_at_42 rfl (lv_at hl 1 rfl) ?_
        refine mo_ald (v := ar 18 K) C hw hm 18 (by decide) (by decide) K rfl (show K < 4 by omega) rfl dX2_at_43 ?_
        refine lv_iload_n hx hb dX2_at_44 rfl (lv_at hl 3 rfl) ?_
        refine lv_icmp_eq (tgt := 54) hx hb dX2_at_45 (by decide) (fun c45 => ?_) (fun c45 => ?_)
        · refine lv_aload_n hx hb dX2_at_54 rfl (lv_at hl 0 rfl) ?_
          refine gf_X2_46 C hw hm.1 (v := .ref (ad 18)) rfl dX2_at_55 ?_
          refine lv_iload_n hx hb dX2_at_58 rfl (lv_at hl 1 rfl) ?_
          refine mo_ald (v := ar 18 K) C hw hm 18 (by decide) (by decide) K rfl (show K < 4 by omega) rfl dX2_at_59 ?_
          refine lv_bipush (v := (-9)) hx hb dX2_at_60 (by decide) ?_
          refine lv_icmp_ne (tgt := 71) hx hb dX2_at_62 (by decide) (fun c62 => ?_) (fun c62 => absurd c62 c35)
          refine lv_iload_n hx hb dX2_at_71 rfl (lv_at hl 2 rfl) ?_
          refine lv_iconst (v := 0) hx hb dX2_at_72 (by decide) ?_
          refine lv_aload_n hx hb dX2_at_73 rfl (lv_at hl 0 rfl) ?_
          refine gf_X2_49 C hw hm.1 (v := .ref (ad 19)) rfl dX2_at_74 ?_
          refine lv_iload_n hx hb dX2_at_77 rfl (lv_at hl 1 rfl) ?_
          refine mo_ald (v := nI (sl K)) C hw hm 19 (by decide) (by decide) K rfl (show K < 4 by omega) (hsl K (by omega)).1 dX2_at_78 ?_
          refine lv_iconst (v := 1) hx hb dX2_at_79 (by decide) ?_
          refine lv_isub hx hb dX2_at_80 ?_
          refine tf_goi (tf_S (n := 3) C hw [.int i, .int 0, .int ((nI (sl K)) - 1)] (metX2_within hB i 0 ((nI (sl K)) - 1)) (lw_S q1052 q1053 q45 q1054) ⟨by decide, by decide, by decide +kernel⟩ ⟨rfl, rfl, Nat.le_of_ble_eq_true rfl, Nat.le_of_ble_eq_true rfl, (by first | exact Nat.le_of_ble_eq_true rfl | (show _ ≤ 0; omega)), (by first | exact Nat.le_of_ble_eq_true rfl | (show _ ≤ 0; omega))⟩ rfl hl rfl (Nat.le_of_ble_eq_true rfl) dX2_at_81) hw (fun r5 G5 H locs hp5 hw => ?_)
          obtain ⟨hre, hGe⟩ := hp5
          have hre : r5 = pt_b (pm_in i 0 ((nI (sl K)) - 1)) := hre
          obtain rfl := hre.symm
          obtain rfl := hGe.symm
          refine lv_if_ne (tgt := 93) hx hb dX2_at_84 (by decide) (fun c84 => ?_) (fun c84 => ?_)
          · replace c84 := pt_b1 c84
            obtain ⟨I, hIb, hI, hIc⟩ := pm_cl1 (n := sl K) (by have := (hsl K (by omega)).2; omega) c84
            have hsK := (hsl K (by omega)).2
            rw [hI] at hl
            refine lv_aload_n hx hb dX2_at_93 rfl (lv_at hl 0 rfl) ?_
            refine gf_X2_52 C hw hm.1 (v := .ref (ad 20)) rfl dX2_at_94 ?_
            refine lv_bipush (v := 40) hx hb dX2_at_97 (by decide) ?_
            refine lv_iload_n hx hb dX2_at_99 rfl (lv_at hl 1 rfl) ?_
            refine tf_imulN hx hb 40 K rfl rfl dX2_at_100 ?_
            refine lv_iload_n hx hb dX2_at_101 rfl (lv_at hl 2 rfl) ?_
            refine tf_iaddN hx hb (40 * K) I rfl rfl dX2_at_102 ?_
            refine mo_ald (v := ar 20 ((40 * K) + I)) C hw hm 20 (by decide) (by decide) ((40 * K) + I) rfl (show (40 * K) + I < 160 by omega) rfl dX2_at_103 ?_
            refine lv_i2l hx hb dX2_at_104 rfl ?_
            exact tf_retl C hw hr hlk dX2_at_105 (by first | exact Nat.le_of_ble_eq_true rfl | omega) (by first | exact Nat.le_of_ble_eq_true rfl | omega) (by refine ⟨_, ?_, hm⟩; simp only [pm_at, c11, c20, Bool.and_self, if_true, hKc]; rw [if_neg c35, if_pos c45, (hsl K (by omega)).1, c84]; simp only [if_true, hIc])
          · replace c84 := pt_b0 c84
            refine lv_aload_n hx hb dX2_at_87 rfl (lv_at hl 0 rfl) ?_
            refine lv_iconst (v := 3) hx hb dX2_at_88 (by decide) ?_
            refine tf_gol (tf_V (n := 1) C hw hm.1 rfl [.int 3] (metX2_lost hB hm 3) (lw_V q1236 q1238 qs40 q45 q1239) rfl ⟨by decide, by decide, by decide +kernel⟩ ⟨rfl, rfl, Nat.le_of_ble_eq_true rfl, Nat.le_of_ble_eq_true rfl, (by first | exact Nat.le_of_ble_eq_true rfl | (show _ ≤ 0; omega)), (by first | exact Nat.le_of_ble_eq_true rfl | (show _ ≤ 0; omega))⟩ rfl hl rfl (Nat.le_of_ble_eq_true rfl) dX2_at_89) hw (fun r6 G6 H locs hp6 hw => ?_)
            obtain ⟨hre, hm⟩ := hp6
            obtain rfl := hre.symm
            exact tf_retl C hw hr hlk dX2_at_92 (by first | exact Nat.le_of_ble_eq_true rfl | omega) (by first | exact Nat.le_of_ble_eq_true rfl | omega) (by refine ⟨_, ?_, hm⟩; simp only [pm_at, c11, c20, Bool.and_self, if_true, hKc]; rw [if_neg c35, if_pos c45, (hsl K (by omega)).1, c84]; rfl)
        · refine lv_aload_n hx hb dX2_at_48 rfl (lv_at hl 0 rfl) ?_
          refine lv_iconst (v := 2) hx hb dX2_at_49 (by decide) ?_
          refine tf_gol (tf_V (n := 1) C hw hm.1 rfl [.int 2] (metX2_lost hB hm 2) (lw_V q1236 q1238 qs40 q45 q1239) rfl ⟨by decide, by decide, by decide +kernel⟩ ⟨rfl, rfl, Nat.le_of_ble_eq_true rfl, Nat.le_of_ble_eq_true rfl, (by first | exact Nat.le_of_ble_eq_true rfl | (show _ ≤ 0; omega)), (by first | exact Nat.le_of_ble_eq_true rfl | (show _ ≤ 0; omega))⟩ rfl hl rfl (Nat.le_of_ble_eq_true rfl) dX2_at_50) hw (fun r7 G7 H locs hp7 hw => ?_)
          obtain ⟨hre, hm⟩ := hp7
          obtain rfl := hre.symm
          exact tf_retl C hw hr hlk dX2_at_53 (by first | exact Nat.le_of_ble_eq_true rfl | omega) (by first | exact Nat.le_of_ble_eq_true rfl | omega) (by refine ⟨_, ?_, hm⟩; simp only [pm_at, c11, c20, Bool.and_self, if_true, hKc]; rw [if_neg c35, if_neg c45])
    · replace c20 := pt_b0 c20
      refine lv_ldc2 (v := (-9223372036854775808)) hx hb C.hown (C.hts _ q1124) dX2_at_23 ?_
      exact tf_retl C hw hr hlk dX2_at_26 (by first | exact Nat.le_of_ble_eq_true rfl | omega) (by first | exact Nat.le_of_ble_eq_true rfl | omega) (by refine ⟨_, ?_, hm⟩; simp [pm_at, c11, c20])

theorem pm_lk {x : Int32} (h1 : ¬ x = 1) (h3 : ¬ x = 3) : Op.lookupswitch.offset (#[((1 : Int), (25 : Int)), (3, 52)] : Array (Int × Int)).toList 72 x.toInt = 72 := by
  have a1 : ¬ x.toInt = 1 := fun h => h1 (tf_i32 h)
  have a3 : ¬ x.toInt = 3 := fun h => h3 (tf_i32 h)
  simp [Op.lookupswitch.offset, a1, a3, Ne.symm a1, Ne.symm a3, eq_comm]

set_option maxHeartbeats 4000000 in
set_option maxRecDepth 100000 in
theorem metX2_tell {l : Launch} {S0 : State} {D : va_G} {dA : Nat → ClassId} (hB : tf_B S0 D dA) {sz : Nat} {G : tf_Pic} {mm : Nat} {ad : Nat → Nat} {iv : Nat → Int32} {ar : Nat → Nat → Int32} {fr : Nat → Int64} (hm : mo_W dA mm ad iv ar fr G) {nh : Nat} (hk5 : iv 5 = nI nh) (hnh : nh ≤ 240) (h : Int32) : Met l yX2_tell (ws_ yX2_tell cX2_tell 2 (some .int)) (tf_rm 2 0 0) (tf_Pc S0 D sz G [.ref mm, .int h]) (tf_Qi S0 D sz G (fun r G1 => ∃ iv1, (r, iv1) = pm_tell iv ar h ∧ mo_W dA mm ad iv1 ar fr G1)) 0 0 (tf_A G sz) := by
  refine Met.ofW (cc := cX2_tell) (maxL := 2) (ret := (some .int)) (by decide) rfl ?_
  intro p e s m args below meth c s₁ B hml hv
  obtain ⟨C, hw, hr, hlk, hin, hargs⟩ := tf_enter hB B hml hv
  subst hargs
  have C : tf_C p s m ([.ref mm, .int h] : List Value).toArray c cX2_tell 2 RX2 S0 D dA := C
  have hx := C.hx
  have hb := C.hb
  change W p l e (tf_rm 2 0 0) s m ([.ref mm, .int h] : List Value).toArray below meth c s.heap [] 0 0 (MQ below (tf_Qi S0 D sz G (fun r G1 => ∃ iv1, (r, iv1) = pm_tell iv ar h ∧ mo_W dA mm ad iv1 ar fr G1)) ([.ref mm, .int h] : List Value).toArray s 0 0 (tf_A G sz)) (entryFrame m ([.ref mm, .int h] : List Value).toArray 2)
  refine tf_start [.ref mm, .int h] (Nat.le_of_ble_eq_true rfl) (fun ls hl => ?_)
  have hl : lv_has ls 2 [(0, .ref mm), (1, .int h)] := hl
  refine lv_aload_n hx hb dX2_tell_0 rfl (lv_at hl 0 rfl) ?_
  refine lv_iload_n hx hb dX2_tell_1 rfl (lv_at hl 1 rfl) ?_
  refine tf_goi (tf_V (n := 1) C hw hm.1 rfl [.int h] (metX2_isHit hB hm h) (lw_V q1104 q1106 qs25 q45 q1107) rfl ⟨by decide, by decide, by decide +kernel⟩ ⟨rfl, rfl, Nat.le_of_ble_eq_true rfl, Nat.le_of_ble_eq_true rfl, (by first | exact Nat.le_of_ble_eq_true rfl | (show _ ≤ 0; omega)), (by first | exact Nat.le_of_ble_eq_true rfl | (show _ ≤ 0; omega))⟩ rfl hl rfl (Nat.le_of_ble_eq_true rfl) dX2_tell_2) hw (fun r1 G1 H locs hp1 hw => ?_)
  obtain ⟨hre, hGe⟩ := hp1
  have hre : r1 = pt_b (pm_of h (iv 5)) := hre
  obtain rfl := hre.symm
  obtain rfl := hGe.symm
  refine lv_if_ne (tgt := 10) hx hb dX2_tell_5 (by decide) (fun c5 => ?_) (fun c5 => ?_)
  · replace c5 := pt_b1 c5
    rw [hk5] at c5
    obtain ⟨K, hKb, hK, hKc⟩ := pm_clof (by omega) c5
    rw [← hk5] at c5
    rw [hK] at hl
    refine lv_aload_n hx hb dX2_tell_10 rfl (lv_at hl 0 rfl) ?_
    refine lv_iload_n hx hb dX2_tell_11 rfl (lv_at hl 1 rfl) ?_
    refine tf_goi (tf_V (n := 1) C hw hm.1 rfl [.int (nI K)] (metX2_kindOf hB hm (h := K) (by omega)) (lw_V q1112 q1114 qs27 q45 q1115) rfl ⟨by decide, by decide, by decide +kernel⟩ ⟨rfl, rfl, Nat.le_of_ble_eq_true rfl, Nat.le_of_ble_eq_true rfl, (by first | exact Nat.le_of_ble_eq_true rfl | (show _ ≤ 0; omega)), (by first | exact Nat.le_of_ble_eq_true rfl | (show _ ≤ 0; omega))⟩ rfl hl rfl (Nat.le_of_ble_eq_true rfl) dX2_tell_12) hw (fun r2 G2 H locs hp2 hw => ?_)
    obtain ⟨hre, hGe⟩ := hp2
    have hre : r2 = pm_kind ar K := hre
    obtain rfl := hre.symm
    obtain rfl := hGe.symm
    by_cases c15 : pm_kind ar K = 1
    · refine lv_lookup (off := 25) (tgt := 40) hx hb dX2_tell_15 (by decide) (by rw [c15]; decide) (by decide) ?_
      refine lv_aload_n hx hb dX2_tell_40 rfl (lv_at hl 0 rfl) ?_
      refine lv_iconst (v := 2) hx hb dX2_tell_41 (by decide) ?_
      refine tf_gov (tf_V (n := 1) C hw hm.1 rfl [.int 2] (metX2_begins hB hm 2) (lw_V q1244 q1246 qs41 q45 q1247) rfl ⟨by decide, by decide, by decide +kernel⟩ ⟨rfl, rfl, Nat.le_of_ble_eq_true rfl, Nat.le_of_ble_eq_true rfl, (by first | exact Nat.le_of_ble_eq_true rfl | (show _ ≤ 0; omega)), (by first | exact Nat.le_of_ble_eq_true rfl | (show _ ≤ 0; omega))⟩ rfl hl rfl (Nat.le_of_ble_eq_true rfl) dX2_tell_42) hw (fun G3 H locs hp3 hw => ?_)
      have hm : mo_W dA mm ad (va_up iv 1 (31 * (iv 1) + 2)) ar fr G3 := hp3
      refine lv_aload_n hx hb dX2_tell_45 rfl (lv_at hl 0 rfl) ?_
      refine lv_iconst (v := 1) hx hb dX2_tell_46 (by decide) ?_
      refine tf_gov (tf_V (n := 1) C hw hm.1 rfl [.int 1] (metX2_begins hB hm 1) (lw_V q1244 q1246 qs41 q45 q1247) rfl ⟨by decide, by decide, by decide +kernel⟩ ⟨rfl, rfl, Nat.le_of_ble_eq_true rfl, Nat.le_of_ble_eq_true rfl, (by first | exact Nat.le_of_ble_eq_true rfl | (show _ ≤ 0; omega)), (by first | exact Nat.le_of_ble_eq_true rfl | (show _ ≤ 0; omega))⟩ rfl hl rfl (Nat.le_of_ble_eq_true rfl) dX2_tell_47) hw (fun G4 H locs hp4 hw => ?_)
      have hm : mo_W dA mm ad (va_up (va_up iv 1 (31 * (iv 1) + 2)) 1 (31 * (31 * (iv 1) + 2) + 1)) ar fr G4 := hp4
      refine lv_bipush (v := 16) hx hb dX2_tell_50 (by decide) ?_
      refine lv_aload_n hx hb dX2_tell_52 rfl (lv_at hl 0 rfl) ?_
      refine gf_X2_25 C hw hm.1 (v := .ref (ad 9)) rfl dX2_tell_53 ?_
      refine lv_iload_n hx hb dX2_tell_56 rfl (lv_at hl 1 rfl) ?_
      refine mo_ald (v := ar 9 K) C hw hm 9 (by decide) (by decide) K rfl (show K < 240 by omega) rfl dX2_tell_57 ?_
      refine lv_imul hx hb dX2_tell_58 ?_
      refine lv_aload_n hx hb dX2_tell_59 rfl (lv_at hl 0 rfl) ?_
      refine gf_X2_22 C hw hm.1 (v := .ref (ad 8)) rfl dX2_tell_60 ?_
      refine lv_iload_n hx hb dX2_tell_63 rfl (lv_at hl 1 rfl) ?_
      refine mo_ald (v := ar 8 K) C hw hm 8 (by decide) (by decide) K rfl (show K < 240 by omega) rfl dX2_tell_64 ?_
      refine lv_iadd hx hb dX2_tell_65 ?_
      exact tf_reti C hw hr hlk dX2_tell_66 (by first | exact Nat.le_of_ble_eq_true rfl | omega) (by first | exact Nat.le_of_ble_eq_true rfl | omega) (by refine ⟨_, ?_, hm⟩; simp [pm_tell, c5, c15, hKc])
    · by_cases c15b : pm_kind ar K = 3
      · refine lv_lookup (off := 52) (tgt := 67) hx hb dX2_tell_15 (by decide) (by rw [c15b]; decide) (by decide) ?_
        refine lv_aload_n hx hb dX2_tell_67 rfl (lv_at hl 0 rfl) ?_
        refine lv_iconst (v := 3) hx hb dX2_tell_68 (by decide) ?_
        refine tf_gov (tf_V (n := 1) C hw hm.1 rfl [.int 3] (metX2_begins hB hm 3) (lw_V q1244 q1246 qs41 q45 q1247) rfl ⟨by decide, by decide, by decide +kernel⟩ ⟨rfl, rfl, Nat.le_of_ble_eq_true rfl, Nat.le_of_ble_eq_true rfl, (by first | exact Nat.le_of_ble_eq_true rfl | (show _ ≤ 0; omega)), (by first | exact Nat.le_of_ble_eq_true rfl | (show _ ≤ 0; omega))⟩ rfl hl rfl (Nat.le_of_ble_eq_true rfl) dX2_tell_69) hw (fun G5 H locs hp5 hw => ?_)
        have hm : mo_W dA mm ad (va_up iv 1 (31 * (iv 1) + 3)) ar fr G5 := hp5
        refine lv_aload_n hx hb dX2_tell_72 rfl (lv_at hl 0 rfl) ?_
        refine lv_iconst (v := 1) hx hb dX2_tell_73 (by decide) ?_
        refine tf_gov (tf_V (n := 1) C hw hm.1 rfl [.int 1] (metX2_begins hB hm 1) (lw_V q1244 q1246 qs41 q45 q1247) rfl ⟨by decide, by decide, by decide +kernel⟩ ⟨rfl, rfl, Nat.le_of_ble_eq_true rfl, Nat.le_of_ble_eq_true rfl, (by first | exact Nat.le_of_ble_eq_true rfl | (show _ ≤ 0; omega)), (by first | exact Nat.le_of_ble_eq_true rfl | (show _ ≤ 0; omega))⟩ rfl hl rfl (Nat.le_of_ble_eq_true rfl) dX2_tell_74) hw (fun G6 H locs hp6 hw => ?_)
        have hm : mo_W dA mm ad (va_up (va_up iv 1 (31 * (iv 1) + 3)) 1 (31 * (31 * (iv 1) + 3) + 1)) ar fr G6 := hp6
        refine lv_aload_n hx hb dX2_tell_77 rfl (lv_at hl 0 rfl) ?_
        refine gf_X2_22 C hw hm.1 (v := .ref (ad 8)) rfl dX2_tell_78 ?_
        refine lv_iload_n hx hb dX2_tell_81 rfl (lv_at hl 1 rfl) ?_
        refine mo_ald (v := ar 8 K) C hw hm 8 (by decide) (by decide) K rfl (show K < 240 by omega) rfl dX2_tell_82 ?_
        refine lv_bipush (v := 9) hx hb dX2_tell_83 (by decide) ?_
        refine lv_isub hx hb dX2_tell_85 ?_
        exact tf_reti C hw hr hlk dX2_tell_86 (by first | exact Nat.le_of_ble_eq_true rfl | omega) (by first | exact Nat.le_of_ble_eq_true rfl | omega) (by refine ⟨_, ?_, hm⟩; simp [pm_tell, c5, c15, c15b, hKc])
      · refine lv_lookup (off := 72) (tgt := 87) hx hb dX2_tell_15 (by decide) (pm_lk c15 c15b) (by decide) ?_
        refine lv_aload_n hx hb dX2_tell_87 rfl (lv_at hl 0 rfl) ?_
        refine lv_iconst (v := 1) hx hb dX2_tell_88 (by decide) ?_
        refine tf_gov (tf_V (n := 1) C hw hm.1 rfl [.int 1] (metX2_begins hB hm 1) (lw_V q1244 q1246 qs41 q45 q1247) rfl ⟨by decide, by decide, by decide +kernel⟩ ⟨rfl, rfl, Nat.le_of_ble_eq_true rfl, Nat.le_of_ble_eq_true rfl, (by first | exact Nat.le_of_ble_eq_true rfl | (show _ ≤ 0; omega)), (by first | exact Nat.le_of_ble_eq_true rfl | (show _ ≤ 0; omega))⟩ rfl hl rfl (Nat.le_of_ble_eq_true rfl) dX2_tell_89) hw (fun G7 H locs hp7 hw => ?_)
        have hm : mo_W dA mm ad (va_up iv 1 (31 * (iv 1) + 1)) ar fr G7 := hp7
        refine lv_aload_n hx hb dX2_tell_92 rfl (lv_at hl 0 rfl) ?_
        refine gf_X2_22 C hw hm.1 (v := .ref (ad 8)) rfl dX2_tell_93 ?_
        refine lv_iload_n hx hb dX2_tell_96 rfl (lv_at hl 1 rfl) ?_
        refine mo_ald (v := ar 8 K) C hw hm 8 (by decide) (by decide) K rfl (show K < 240 by omega) rfl dX2_tell_97 ?_
        exact tf_reti C hw hr hlk dX2_tell_98 (by first | exact Nat.le_of_ble_eq_true rfl | omega) (by first | exact Nat.le_of_ble_eq_true rfl | omega) (by refine ⟨_, ?_, hm⟩; simp [pm_tell, c5, c15, c15b, hKc])
  · replace c5 := pt_b0 c5
    refine lv_iconst (v := (-1)) hx hb dX2_tell_8 (by decide) ?_
    exact tf_reti C hw hr hlk dX2_tell_9 (by first | exact Nat.le_of_ble_eq_true rfl | omega) (by first | exact Nat.le_of_ble_eq_true rfl | omega) (by refine ⟨_, ?_, hm⟩; simp [pm_tell, c5])

set_option maxHeartbeats 4000000 in
set_option maxRecDepth 100000 in
theorem metX2_weigh {l : Launch} {S0 : State} {D : va_G} {dA : Nat → ClassId} (hB : tf_B S0 D dA) {sz : Nat} {G : tf_Pic} {mm : Nat} {ad : Nat → Nat} {iv : Nat → Int32} {ar : Nat → Nat → Int32} {fr : Nat → Int64} (hm : mo_W dA mm ad iv ar fr G) {nh : Nat} (hk5 : iv 5 = nI nh) (hnh : nh ≤ 240) (h : Int32) : Met l yX2_weigh (ws_ yX2_weigh cX2_weigh 3 (some .int)) (tf_rm 3 0 0) (tf_Pc S0 D sz G [.ref mm, .int h]) (tf_Qi S0 D sz G (fun r G1 => ∃ iv1, (r, iv1) = pm_weigh iv ar h ∧ mo_W dA mm ad iv1 ar fr G1)) 0 0 (tf_A G sz) := by
  refine Met.ofW (cc := cX2_weigh) (maxL := 3) (ret := (some .int)) (by decide) rfl ?_
  intro p e s m args below meth c s₁ B hml hv
  obtain ⟨C, hw, hr, hlk, hin, hargs⟩ := tf_enter hB B hml hv
  subst hargs
  have C : tf_C p s m ([.ref mm, .int h] : List Value).toArray c cX2_weigh 3 RX2 S0 D dA := C
  have hx := C.hx
  have hb := C.hb
  change W p l e (tf_rm 3 0 0) s m ([.ref mm, .int h] : List Value).toArray below meth c s.heap [] 0 0 (MQ below (tf_Qi S0 D sz G (fun r G1 => ∃ iv1, (r, iv1) = pm_weigh iv ar h ∧ mo_W dA mm ad iv1 ar fr G1)) ([.ref mm, .int h] : List Value).toArray s 0 0 (tf_A G sz)) (entryFrame m ([.ref mm, .int h] : List Value).toArray 3)
  refine tf_start [.ref mm, .int h] (Nat.le_of_ble_eq_true rfl) (fun ls hl => ?_)
  have hl : lv_has ls 3 [(0, .ref mm), (1, .int h)] := hl
  refine lv_aload_n hx hb dX2_weigh_0 rfl (lv_at hl 0 rfl) ?_
  refine lv_iload_n hx hb dX2_weigh_1 rfl (lv_at hl 1 rfl) ?_
  refine tf_goi (tf_V (n := 1) C hw hm.1 rfl [.int h] (metX2_isHit hB hm h) (lw_V q1104 q1106 qs25 q45 q1107) rfl ⟨by decide, by decide, by decide +kernel⟩ ⟨rfl, rfl, Nat.le_of_ble_eq_true rfl, Nat.le_of_ble_eq_true rfl, (by first | exact Nat.le_of_ble_eq_true rfl | (show _ ≤ 0; omega)), (by first | exact Nat.le_of_ble_eq_true rfl | (show _ ≤ 0; omega))⟩ rfl hl rfl (Nat.le_of_ble_eq_true rfl) dX2_weigh_2) hw (fun r1 G1 H locs hp1 hw => ?_)
  obtain ⟨hre, hGe⟩ := hp1
  have hre : r1 = pt_b (pm_of h (iv 5)) := hre
  obtain rfl := hre.symm
  obtain rfl := hGe.symm
  refine lv_if_ne (tgt := 10) hx hb dX2_weigh_5 (by decide) (fun c5 => ?_) (fun c5 => ?_)
  · replace c5 := pt_b1 c5
    rw [hk5] at c5
    obtain ⟨K, hKb, hK, hKc⟩ := pm_clof (by omega) c5
    rw [← hk5] at c5
    rw [hK] at hl
    refine lv_aload_n hx hb dX2_weigh_10 rfl (lv_at hl 0 rfl) ?_
    refine lv_iload_n hx hb dX2_weigh_11 rfl (lv_at hl 1 rfl) ?_
    refine tf_goi (tf_V (n := 1) C hw hm.1 rfl [.int (nI K)] (metX2_kindOf hB hm (h := K) (by omega)) (lw_V q1112 q1114 qs27 q45 q1115) rfl ⟨by decide, by decide, by decide +kernel⟩ ⟨rfl, rfl, Nat.le_of_ble_eq_true rfl, Nat.le_of_ble_eq_true rfl, (by first | exact Nat.le_of_ble_eq_true rfl | (show _ ≤ 0; omega)), (by first | exact Nat.le_of_ble_eq_true rfl | (show _ ≤ 0; omega))⟩ rfl hl rfl (Nat.le_of_ble_eq_true rfl) dX2_weigh_12) hw (fun r2 G2 H locs hp2 hw => ?_)
    obtain ⟨hre, hGe⟩ := hp2
    have hre : r2 = pm_kind ar K := hre
    obtain rfl := hre.symm
    obtain rfl := hGe.symm
    refine lv_iconst (v := 2) hx hb dX2_weigh_15 (by decide) ?_
    refine lv_icmp_lt (tgt := 23) hx hb dX2_weigh_16 (by decide) (fun c16 => ?_) (fun c16 => ?_)
    · refine lv_iconst (v := 0) hx hb dX2_weigh_23 (by decide) ?_
      refine lv_istore_n (lv' := [(2, .int 0), (0, .ref mm), (1, .int (nI K))]) hx hb dX2_weigh_24 rfl hl (by decide) rfl (fun ls hl => ?_)
      refine lv_aload_n hx hb dX2_weigh_25 rfl (lv_at hl 1 rfl) ?_
      refine lv_iload_n hx hb dX2_weigh_26 rfl (lv_at hl 0 rfl) ?_
      refine lv_if_eq (tgt := 34) hx hb dX2_weigh_27 (by decide) (fun c27 => ?_) (fun c27 => absurd c27 (not_not_intro rfl))
      refine lv_iconst (v := 4) hx hb dX2_weigh_34 (by decide) ?_
      refine tf_gov (tf_V (n := 1) C hw hm.1 rfl [.int 4] (metX2_begins hB hm 4) (lw_V q1244 q1246 qs41 q45 q1247) rfl ⟨by decide, by decide, by decide +kernel⟩ ⟨rfl, rfl, Nat.le_of_ble_eq_true rfl, Nat.le_of_ble_eq_true rfl, (by first | exact Nat.le_of_ble_eq_true rfl | (show _ ≤ 0; omega)), (by first | exact Nat.le_of_ble_eq_true rfl | (show _ ≤ 0; omega))⟩ rfl hl rfl (Nat.le_of_ble_eq_true rfl) dX2_weigh_35) hw (fun G3 H locs hp3 hw => ?_)
      have hm : mo_W dA mm ad (va_up iv 1 (31 * (iv 1) + 4)) ar fr G3 := hp3
      refine lv_iload_n hx hb dX2_weigh_38 rfl (lv_at hl 0 rfl) ?_
      refine lv_if_eq (tgt := 46) hx hb dX2_weigh_39 (by decide) (fun c39 => ?_) (fun c39 => absurd c39 (not_not_intro rfl))
      refine lv_aload_n hx hb dX2_weigh_46 rfl (lv_at hl 1 rfl) ?_
      refine lv_iload_n hx hb dX2_weigh_47 rfl (lv_at hl 2 rfl) ?_
      refine tf_goi (tf_V (n := 1) C hw hm.1 rfl [.int (nI K)] (metX2_amountOf hB hm (h := K) (by omega)) (lw_V q1116 q1118 qs28 q45 q1119) rfl ⟨by decide, by decide, by decide +kernel⟩ ⟨rfl, rfl, Nat.le_of_ble_eq_true rfl, Nat.le_of_ble_eq_true rfl, (by first | exact Nat.le_of_ble_eq_true rfl | (show _ ≤ 0; omega)), (by first | exact Nat.le_of_ble_eq_true rfl | (show _ ≤ 0; omega))⟩ rfl hl rfl (Nat.le_of_ble_eq_true rfl) dX2_weigh_48) hw (fun r4 G4 H locs hp4 hw => ?_)
      obtain ⟨hre, hGe⟩ := hp4
      have hre : r4 = pm_amt ar K := hre
      obtain rfl := hre.symm
      obtain rfl := hGe.symm
      refine lv_aload_n hx hb dX2_weigh_51 rfl (lv_at hl 1 rfl) ?_
      refine lv_iload_n hx hb dX2_weigh_52 rfl (lv_at hl 2 rfl) ?_
      refine tf_goi (tf_V (n := 1) C hw hm.1 rfl [.int (nI K)] (metX2_kindOf hB hm (h := K) (by omega)) (lw_V q1112 q1114 qs27 q45 q1115) rfl ⟨by decide, by decide, by decide +kernel⟩ ⟨rfl, rfl, Nat.le_of_ble_eq_true rfl, Nat.le_of_ble_eq_true rfl, (by first | exact Nat.le_of_ble_eq_true rfl | (show _ ≤ 0; omega)), (by first | exact Nat.le_of_ble_eq_true rfl | (show _ ≤ 0; omega))⟩ rfl hl rfl (Nat.le_of_ble_eq_true rfl) dX2_weigh_53) hw (fun r5 G5 H locs hp5 hw => ?_)
      obtain ⟨hre, hGe⟩ := hp5
      have hre : r5 = pm_kind ar K := hre
      obtain rfl := hre.symm
      obtain rfl := hGe.symm
      refine lv_iadd hx hb dX2_weigh_56 ?_
      exact tf_reti C hw hr hlk dX2_weigh_57 (by first | exact Nat.le_of_ble_eq_true rfl | omega) (by first | exact Nat.le_of_ble_eq_true rfl | omega) (by refine ⟨_, ?_, hm⟩; simp [pm_weigh, c5, c16, hKc])
    · refine lv_iconst (v := 1) hx hb dX2_weigh_19 (by decide) ?_
      refine lv_goto (tgt := 24) hx hb dX2_weigh_20 (by decide) ?_
      refine lv_istore_n (lv' := [(2, .int 1), (0, .ref mm), (1, .int (nI K))]) hx hb dX2_weigh_24 rfl hl (by decide) rfl (fun ls hl => ?_)
      refine lv_aload_n hx hb dX2_weigh_25 rfl (lv_at hl 1 rfl) ?_
      refine lv_iload_n hx hb dX2_weigh_26 rfl (lv_at hl 0 rfl) ?_
      refine lv_if_eq (tgt := 34) hx hb dX2_weigh_27 (by decide) (fun c27 => absurd c27 (by decide)) (fun c27 => ?_)
      refine lv_iconst (v := 5) hx hb dX2_weigh_30 (by decide) ?_
      refine lv_goto (tgt := 35) hx hb dX2_weigh_31 (by decide) ?_
      refine tf_gov (tf_V (n := 1) C hw hm.1 rfl [.int 5] (metX2_begins hB hm 5) (lw_V q1244 q1246 qs41 q45 q1247) rfl ⟨by decide, by decide, by decide +kernel⟩ ⟨rfl, rfl, Nat.le_of_ble_eq_true rfl, Nat.le_of_ble_eq_true rfl, (by first | exact Nat.le_of_ble_eq_true rfl | (show _ ≤ 0; omega)), (by first | exact Nat.le_of_ble_eq_true rfl | (show _ ≤ 0; omega))⟩ rfl hl rfl (Nat.le_of_ble_eq_true rfl) dX2_weigh_35) hw (fun G6 H locs hp6 hw => ?_)
      have hm : mo_W dA mm ad (va_up iv 1 (31 * (iv 1) + 5)) ar fr G6 := hp6
      refine lv_iload_n hx hb dX2_weigh_38 rfl (lv_at hl 0 rfl) ?_
      refine lv_if_eq (tgt := 46) hx hb dX2_weigh_39 (by decide) (fun c39 => absurd c39 (by decide)) (fun c39 => ?_)
      refine lv_iconst (v := 0) hx hb dX2_weigh_42 (by decide) ?_
      refine lv_goto (tgt := 57) hx hb dX2_weigh_43 (by decide) ?_
      exact tf_reti C hw hr hlk dX2_weigh_57 (by first | exact Nat.le_of_ble_eq_true rfl | omega) (by first | exact Nat.le_of_ble_eq_true rfl | omega) (by refine ⟨_, ?_, hm⟩; simp [pm_weigh, c5, c16, hKc])
  · replace c5 := pt_b0 c5
    refine lv_iconst (v := (-1)) hx hb dX2_weigh_8 (by decide) ?_
    exact tf_reti C hw hr hlk dX2_weigh_9 (by first | exact Nat.le_of_ble_eq_true rfl | omega) (by first | exact Nat.le_of_ble_eq_true rfl | omega) (by refine ⟨_, ?_, hm⟩; simp [pm_weigh, c5])

set_option maxHeartbeats 4000000 in
set_option maxRecDepth 100000 in
theorem metX2_as {l : Launch} {S0 : State} {D : va_G} {dA : Nat → ClassId} (hB : tf_B S0 D dA) {sz : Nat} {G : tf_Pic} {mm : Nat} {ad : Nat → Nat} {iv : Nat → Int32} {ar : Nat → Nat → Int32} {fr : Nat → Int64} (hm : mo_W dA mm ad iv ar fr G) {nh : Nat} (hk5 : iv 5 = nI nh) (hnh : nh ≤ 240) (h kd : Int32) : Met l yX2_as (ws_ yX2_as cX2_as 5 (some .int)) (tf_rm 3 0 0) (tf_Pc S0 D sz G [.ref mm, .int h, .int kd]) (tf_Qi S0 D sz G (fun r G1 => ∃ iv1, (r, iv1) = pm_as iv ar h kd ∧ mo_W dA mm ad iv1 ar fr G1)) 0 0 (tf_A G sz) := by
  refine Met.ofW (cc := cX2_as) (maxL := 5) (ret := (some .int)) (by decide) rfl ?_
  intro p e s m args below meth c s₁ B hml hv
  obtain ⟨C, hw, hr, hlk, hin, hargs⟩ := tf_enter hB B hml hv
  subst hargs
  have C : tf_C p s m ([.ref mm, .int h, .int kd] : List Value).toArray c cX2_as 5 RX2 S0 D dA := C
  have hx := C.hx
  have hb := C.hb
  change W p l e (tf_rm 3 0 0) s m ([.ref mm, .int h, .int kd] : List Value).toArray below meth c s.heap [] 0 0 (MQ below (tf_Qi S0 D sz G (fun r G1 => ∃ iv1, (r, iv1) = pm_as iv ar h kd ∧ mo_W dA mm ad iv1 ar fr G1)) ([.ref mm, .int h, .int kd] : List Value).toArray s 0 0 (tf_A G sz)) (entryFrame m ([.ref mm, .int h, .int kd] : List Value).toArray 5)
  refine tf_start [.ref mm, .int h, .int kd] (Nat.le_of_ble_eq_true rfl) (fun ls hl => ?_)
  have hl : lv_has ls 5 [(0, .ref mm), (1, .int h), (2, .int kd)] := hl
  refine lv_aload_n hx hb dX2_as_0 rfl (lv_at hl 0 rfl) ?_
  refine lv_iconst (v := 0) hx hb dX2_as_1 (by decide) ?_
  refine pf_X2_98 C hw hm.1 0 (Nat.le_of_ble_eq_true rfl) dX2_as_2 (mo_put hm 0 (by decide) (fun G1 H locs hm hw => ?_))
  refine lv_aload_n hx hb dX2_as_5 rfl (lv_at hl 0 rfl) ?_
  refine lv_iload_n hx hb dX2_as_6 rfl (lv_at hl 1 rfl) ?_
  refine tf_goi (tf_V (n := 1) C hw hm.1 rfl [.int h] (metX2_isHit hB hm h) (lw_V q1104 q1106 qs25 q45 q1107) rfl ⟨by decide, by decide, by decide +kernel⟩ ⟨rfl, rfl, Nat.le_of_ble_eq_true rfl, Nat.le_of_ble_eq_true rfl, (by first | exact Nat.le_of_ble_eq_true rfl | (show _ ≤ 0; omega)), (by first | exact Nat.le_of_ble_eq_true rfl | (show _ ≤ 0; omega))⟩ rfl hl rfl (Nat.le_of_ble_eq_true rfl) dX2_as_7) hw (fun r2 G2 H locs hp2 hw => ?_)
  obtain ⟨hre, hGe⟩ := hp2
  have hre : r2 = pt_b (pm_of h (iv 5)) := hre
  obtain rfl := hre.symm
  obtain rfl := hGe.symm
  refine lv_if_ne (tgt := 15) hx hb dX2_as_10 (by decide) (fun c10 => ?_) (fun c10 => ?_)
  · replace c10 := pt_b1 c10
    refine lv_iload_n hx hb dX2_as_15 rfl (lv_at hl 2 rfl) ?_
    refine lv_iconst (v := 0) hx hb dX2_as_16 (by decide) ?_
    refine lv_iconst (v := 3) hx hb dX2_as_17 (by decide) ?_
    refine tf_goi (tf_S (n := 3) C hw [.int kd, .int 0, .int 3] (metX2_within hB kd 0 3) (lw_S q1052 q1053 q45 q1054) ⟨by decide, by decide, by decide +kernel⟩ ⟨rfl, rfl, Nat.le_of_ble_eq_true rfl, Nat.le_of_ble_eq_true rfl, (by first | exact Nat.le_of_ble_eq_true rfl | (show _ ≤ 0; omega)), (by first | exact Nat.le_of_ble_eq_true rfl | (show _ ≤ 0; omega))⟩ rfl hl rfl (Nat.le_of_ble_eq_true rfl) dX2_as_18) hw (fun r3 G3 H locs hp3 hw => ?_)
    obtain ⟨hre, hGe⟩ := hp3
    have hre : r3 = pt_b (pm_in kd 0 3) := hre
    obtain rfl := hre.symm
    obtain rfl := hGe.symm
    refine lv_if_ne (tgt := 27) hx hb dX2_as_21 (by decide) (fun c21 => ?_) (fun c21 => ?_)
    · replace c21 := pt_b1 c21
      rw [hk5] at c10
      obtain ⟨K, hKb, hK, hKc⟩ := pm_clof (by omega) c10
      rw [← hk5] at c10
      rw [hK] at hl
      refine lv_aload_n hx hb dX2_as_27 rfl (lv_at hl 0 rfl) ?_
      refine lv_iload_n hx hb dX2_as_28 rfl (lv_at hl 1 rfl) ?_
      refine tf_goi (tf_V (n := 1) C hw hm.1 rfl [.int (nI K)] (metX2_kindOf hB hm (h := K) (by omega)) (lw_V q1112 q1114 qs27 q45 q1115) rfl ⟨by decide, by decide, by decide +kernel⟩ ⟨rfl, rfl, Nat.le_of_ble_eq_true rfl, Nat.le_of_ble_eq_true rfl, (by first | exact Nat.le_of_ble_eq_true rfl | (show _ ≤ 0; omega)), (by first | exact Nat.le_of_ble_eq_true rfl | (show _ ≤ 0; omega))⟩ rfl hl rfl (Nat.le_of_ble_eq_true rfl) dX2_as_29) hw (fun r4 G4 H locs hp4 hw => ?_)
      obtain ⟨hre, hGe⟩ := hp4
      have hre : r4 = pm_kind ar K := hre
      obtain rfl := hre.symm
      obtain rfl := hGe.symm
      refine lv_istore_n (lv' := [(3, .int (pm_kind ar K)), (0, .ref mm), (1, .int (nI K)), (2, .int kd)]) hx hb dX2_as_32 rfl hl (by decide) rfl (fun ls hl => ?_)
      refine lv_iload_n hx hb dX2_as_33 rfl (lv_at hl 3 rfl) ?_
      refine lv_if_eq (tgt := 52) hx hb dX2_as_34 (by decide) (fun c34 => ?_) (fun c34 => ?_)
      · refine lv_iconst (v := 1) hx hb dX2_as_52 (by decide) ?_
        refine lv_goto (tgt := 57) hx hb dX2_as_53 (by decide) ?_
        refine lv_istore (lv' := [(4, .int 1), (3, .int (pm_kind ar K)), (0, .ref mm), (1, .int (nI K)), (2, .int kd)]) hx hb dX2_as_57 hl (by decide) rfl (fun ls hl => ?_)
        refine lv_iload hx hb dX2_as_59 (lv_at hl 0 rfl) ?_
        refine lv_if_eq (tgt := 68) hx hb dX2_as_61 (by decide) (fun c61 => absurd c61 (by decide)) (fun c61 => ?_)
        refine lv_iconst (v := 1) hx hb dX2_as_64 (by decide) ?_
        refine lv_goto (tgt := 73) hx hb dX2_as_65 (by decide) ?_
        exact tf_reti C hw hr hlk dX2_as_73 (by first | exact Nat.le_of_ble_eq_true rfl | omega) (by first | exact Nat.le_of_ble_eq_true rfl | omega) (by refine ⟨_, ?_, hm⟩; simp only [pm_as, c10, c21, if_true, hKc]; rw [if_pos (Or.inl c34)])
      · refine lv_iload_n hx hb dX2_as_37 rfl (lv_at hl 3 rfl) ?_
        refine lv_iload_n hx hb dX2_as_38 rfl (lv_at hl 0 rfl) ?_
        refine lv_icmp_eq (tgt := 52) hx hb dX2_as_39 (by decide) (fun c39 => ?_) (fun c39 => ?_)
        · refine lv_iconst (v := 1) hx hb dX2_as_52 (by decide) ?_
          refine lv_goto (tgt := 57) hx hb dX2_as_53 (by decide) ?_
          refine lv_istore (lv' := [(4, .int 1), (3, .int (pm_kind ar K)), (0, .ref mm), (1, .int (nI K)), (2, .int kd)]) hx hb dX2_as_57 hl (by decide) rfl (fun ls hl => ?_)
          refine lv_iload hx hb dX2_as_59 (lv_at hl 0 rfl) ?_
          refine lv_if_eq (tgt := 68) hx hb dX2_as_61 (by decide) (fun c61 => absurd c61 (by decide)) (fun c61 => ?_)
          refine lv_iconst (v := 1) hx hb dX2_as_64 (by decide) ?_
          refine lv_goto (tgt := 73) hx hb dX2_as_65 (by decide) ?_
          exact tf_reti C hw hr hlk dX2_as_73 (by first | exact Nat.le_of_ble_eq_true rfl | omega) (by first | exact Nat.le_of_ble_eq_true rfl | omega) (by refine ⟨_, ?_, hm⟩; simp only [pm_as, c10, c21, if_true, hKc]; rw [if_pos (Or.inr (Or.inl c39))])
        · refine lv_iload_n hx hb dX2_as_42 rfl (lv_at hl 3 rfl) ?_
          refine lv_iconst (v := 2) hx hb dX2_as_43 (by decide) ?_
          refine lv_icmp_ne (tgt := 56) hx hb dX2_as_44 (by decide) (fun c44 => ?_) (fun c44 => ?_)
          · refine lv_iconst (v := 0) hx hb dX2_as_56 (by decide) ?_
            refine lv_istore (lv' := [(4, .int 0), (3, .int (pm_kind ar K)), (0, .ref mm), (1, .int (nI K)), (2, .int kd)]) hx hb dX2_as_57 hl (by decide) rfl (fun ls hl => ?_)
            refine lv_iload hx hb dX2_as_59 (lv_at hl 0 rfl) ?_
            refine lv_if_eq (tgt := 68) hx hb dX2_as_61 (by decide) (fun c61 => ?_) (fun c61 => absurd c61 (not_not_intro rfl))
            refine lv_aload_n hx hb dX2_as_68 rfl (lv_at hl 2 rfl) ?_
            refine lv_iconst (v := 2) hx hb dX2_as_69 (by decide) ?_
            refine tf_goi (tf_V (n := 1) C hw hm.1 rfl [.int 2] (metX2_fails hB hm 2) (lw_V q1075 q1077 qs22 q45 q1078) rfl ⟨by decide, by decide, by decide +kernel⟩ ⟨rfl, rfl, Nat.le_of_ble_eq_true rfl, Nat.le_of_ble_eq_true rfl, (by first | exact Nat.le_of_ble_eq_true rfl | (show _ ≤ 0; omega)), (by first | exact Nat.le_of_ble_eq_true rfl | (show _ ≤ 0; omega))⟩ rfl hl rfl (Nat.le_of_ble_eq_true rfl) dX2_as_70) hw (fun r5 G5 H locs hp5 hw => ?_)
            obtain ⟨hre, hm⟩ := hp5
            obtain rfl := hre.symm
            exact tf_reti C hw hr hlk dX2_as_73 (by first | exact Nat.le_of_ble_eq_true rfl | omega) (by first | exact Nat.le_of_ble_eq_true rfl | omega) (by refine ⟨_, ?_, hm⟩; simp only [pm_as, c10, c21, if_true, hKc]; rw [if_neg (fun hh => hh.elim c34 (fun hh => hh.elim c39 (fun hh => c44 hh.1)))]; rfl)
          · refine lv_iload_n hx hb dX2_as_47 rfl (lv_at hl 0 rfl) ?_
            refine lv_iconst (v := 3) hx hb dX2_as_48 (by decide) ?_
            refine lv_icmp_ne (tgt := 56) hx hb dX2_as_49 (by decide) (fun c49 => ?_) (fun c49 => ?_)
            · refine lv_iconst (v := 0) hx hb dX2_as_56 (by decide) ?_
              refine lv_istore (lv' := [(4, .int 0), (3, .int (pm_kind ar K)), (0, .ref mm), (1, .int (nI K)), (2, .int kd)]) hx hb dX2_as_57 hl (by decide) rfl (fun ls hl => ?_)
              refine lv_iload hx hb dX2_as_59 (lv_at hl 0 rfl) ?_
              refine lv_if_eq (tgt := 68) hx hb dX2_as_61 (by decide) (fun c61 => ?_) (fun c61 => absurd c61 (not_not_intro rfl))
              refine lv_aload_n hx hb dX2_as_68 rfl (lv_at hl 2 rfl) ?_
              refine lv_iconst (v := 2) hx hb dX2_as_69 (by decide) ?_
              refine tf_goi (tf_V (n := 1) C hw hm.1 rfl [.int 2] (metX2_fails hB hm 2) (lw_V q1075 q1077 qs22 q45 q1078) rfl ⟨by decide, by decide, by decide +kernel⟩ ⟨rfl, rfl, Nat.le_of_ble_eq_true rfl, Nat.le_of_ble_eq_true rfl, (by first | exact Nat.le_of_ble_eq_true rfl | (show _ ≤ 0; omega)), (by first | exact Nat.le_of_ble_eq_true rfl | (show _ ≤ 0; omega))⟩ rfl hl rfl (Nat.le_of_ble_eq_true rfl) dX2_as_70) hw (fun r6 G6 H locs hp6 hw => ?_)
              obtain ⟨hre, hm⟩ := hp6
              obtain rfl := hre.symm
              exact tf_reti C hw hr hlk dX2_as_73 (by first | exact Nat.le_of_ble_eq_true rfl | omega) (by first | exact Nat.le_of_ble_eq_true rfl | omega) (by refine ⟨_, ?_, hm⟩; simp only [pm_as, c10, c21, if_true, hKc]; rw [if_neg (fun hh => hh.elim c34 (fun hh => hh.elim c39 (fun hh => c49 hh.2)))]; rfl)
            · refine lv_iconst (v := 1) hx hb dX2_as_52 (by decide) ?_
              refine lv_goto (tgt := 57) hx hb dX2_as_53 (by decide) ?_
              refine lv_istore (lv' := [(4, .int 1), (3, .int (pm_kind ar K)), (0, .ref mm), (1, .int (nI K)), (2, .int kd)]) hx hb dX2_as_57 hl (by decide) rfl (fun ls hl => ?_)
              refine lv_iload hx hb dX2_as_59 (lv_at hl 0 rfl) ?_
              refine lv_if_eq (tgt := 68) hx hb dX2_as_61 (by decide) (fun c61 => absurd c61 (by decide)) (fun c61 => ?_)
              refine lv_iconst (v := 1) hx hb dX2_as_64 (by decide) ?_
              refine lv_goto (tgt := 73) hx hb dX2_as_65 (by decide) ?_
              exact tf_reti C hw hr hlk dX2_as_73 (by first | exact Nat.le_of_ble_eq_true rfl | omega) (by first | exact Nat.le_of_ble_eq_true rfl | omega) (by refine ⟨_, ?_, hm⟩; simp only [pm_as, c10, c21, if_true, hKc]; rw [if_pos (Or.inr (Or.inr ⟨c44, c49⟩))])
    · replace c21 := pt_b0 c21
      refine lv_bipush (v := (-2)) hx hb dX2_as_24 (by decide) ?_
      exact tf_reti C hw hr hlk dX2_as_26 (by first | exact Nat.le_of_ble_eq_true rfl | omega) (by first | exact Nat.le_of_ble_eq_true rfl | omega) (by refine ⟨_, ?_, hm⟩; simp [pm_as, c10, c21])
  · replace c10 := pt_b0 c10
    refine lv_iconst (v := (-1)) hx hb dX2_as_13 (by decide) ?_
    exact tf_reti C hw hr hlk dX2_as_14 (by first | exact Nat.le_of_ble_eq_true rfl | omega) (by first | exact Nat.le_of_ble_eq_true rfl | omega) (by refine ⟨_, ?_, hm⟩; simp [pm_as, c10])
