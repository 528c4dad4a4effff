/-! MODULE TankFieldModel, part 8: near, ahead, joining -/
set_option maxRecDepth 100000
def pm_nearR (ar : Nat → Nat → Int32) (R : Nat → Int32) (hT : Nat → Nat) (u v : Nat) : Bool := !decide (hT u = hT v) && (!decide (ar 21 0 < R u - R v) && (!decide (R u - R v < -ar 21 0) && !decide (ar 21 1 * ar 21 1 < (ar 3 (hT u) - ar 3 (hT v)) * (ar 3 (hT u) - ar 3 (hT v)) + (ar 4 (hT u) - ar 4 (hT v)) * (ar 4 (hT u) - ar 4 (hT v)))))
def pm_ahead (R : Nat → Int32) (g h : Nat) : Bool := decide (R g < R h) || (decide (R g = R h) && decide (g < h))

set_option maxHeartbeats 4000000 in
set_option maxRecDepth 100000 in
theorem metX2_isNear {l : Launch} {S0 : State} {D : va_G} {dA : Nat → ClassId} (hB : tf_B S0 D dA) {sz : Nat} {G : tf_Pic} {mm : Nat} {ad : Nat → Nat} {iv : Nat → Int32} {ar : Nat → Nat → Int32} {fr : Nat → Int64} (hm : mo_W dA mm ad iv ar fr G) {nT nh nc nd ne nk : Nat} {hT kf kh : Nat → Nat} (hI : mo_I iv ar nT nh nc nd ne nk hT kf kh) {u v : Nat} (hu : u < nh) (hv2 : v < nh) : Met l yX2_isNear (ws_ yX2_isNear cX2_isNear 8 (some .boolean)) (tf_rm 1 0 0) (tf_Pc S0 D sz G [.ref mm, .int (nI u), .int (nI v)]) (tf_Qi S0 D sz G (fun r G1 => r = pt_b (pm_nearR ar (ar 24) hT u v) ∧ G1 = G)) 0 0 (tf_A G sz) := by
  refine Met.ofW (cc := cX2_isNear) (maxL := 8) (ret := (some .boolean)) (by decide) rfl ?_
  intro p e s m args below meth c s₁ B hml hv
  obtain ⟨C, hw, hr, hlk, hin, hargs⟩ := tf_enter hB B hml hv
  subst hargs
  have C : tf_C p s m ([.ref mm, .int (nI u), .int (nI v)] : List Value).toArray c cX2_isNear 8 RX2 S0 D dA := C
  have hx := C.hx
  have hb := C.hb
  change W p l e (tf_rm 1 0 0) s m ([.ref mm, .int (nI u), .int (nI v)] : List Value).toArray below meth c s.heap [] 0 0 (MQ below (tf_Qi S0 D sz G (fun r G1 => r = pt_b (pm_nearR ar (ar 24) hT u v) ∧ G1 = G)) ([.ref mm, .int (nI u), .int (nI v)] : List Value).toArray s 0 0 (tf_A G sz)) (entryFrame m ([.ref mm, .int (nI u), .int (nI v)] : List Value).toArray 8)
  have hI0 := hI
  obtain ⟨hk2, hnT, hk5, hnh, h6, hk10, hnc, hk14, hnd, hk30, hne, hk31, hnk, h32, hkf0, hkfn, hkfs, h33⟩ := hI
  have h6u := h6 u hu
  have h6v := h6 v hv2
  refine tf_start [.ref mm, .int (nI u), .int (nI v)] (Nat.le_of_ble_eq_true rfl) (fun ls hl => ?_)
  have hl : lv_has ls 8 [(0, .ref mm), (1, .int (nI u)), (2, .int (nI v))] := hl
  refine lv_aload_n hx hb dX2_isNear_0 rfl (lv_at hl 0 rfl) ?_
  refine gf_X2_61 C hw hm.1 (v := .ref (ad 24)) rfl dX2_isNear_1 ?_
  refine lv_iload_n hx hb dX2_isNear_4 rfl (lv_at hl 1 rfl) ?_
  refine mo_ald (v := ar 24 u) C hw hm 24 (by decide) (by decide) u rfl (show u < 240 by omega) rfl dX2_isNear_5 ?_
  refine lv_aload_n hx hb dX2_isNear_6 rfl (lv_at hl 0 rfl) ?_
  refine gf_X2_61 C hw hm.1 (v := .ref (ad 24)) rfl dX2_isNear_7 ?_
  refine lv_iload_n hx hb dX2_isNear_10 rfl (lv_at hl 2 rfl) ?_
  refine mo_ald (v := ar 24 v) C hw hm 24 (by decide) (by decide) v rfl (show v < 240 by omega) rfl dX2_isNear_11 ?_
  refine lv_isub hx hb dX2_isNear_12 ?_
  refine lv_istore_n (lv' := [(3, .int ((ar 24 u) - (ar 24 v))), (0, .ref mm), (1, .int (nI u)), (2, .int (nI v))]) hx hb dX2_isNear_13 rfl hl (by decide) rfl (fun ls hl => ?_)
  refine lv_aload_n hx hb dX2_isNear_14 rfl (lv_at hl 1 rfl) ?_
  refine gf_X2_16 C hw hm.1 (v := .ref (ad 6)) rfl dX2_isNear_15 ?_
  refine lv_iload_n hx hb dX2_isNear_18 rfl (lv_at hl 2 rfl) ?_
  refine mo_ald (v := nI (hT u)) C hw hm 6 (by decide) (by decide) u rfl (show u < 240 by omega) (h6 u (by omega)).1 dX2_isNear_19 ?_
  refine lv_istore (lv' := [(4, .int (nI (hT u))), (3, .int ((ar 24 u) - (ar 24 v))), (0, .ref mm), (1, .int (nI u)), (2, .int (nI v))]) hx hb dX2_isNear_20 hl (by decide) rfl (fun ls hl => ?_)
  refine lv_aload_n hx hb dX2_isNear_22 rfl (lv_at hl 2 rfl) ?_
  refine gf_X2_16 C hw hm.1 (v := .ref (ad 6)) rfl dX2_isNear_23 ?_
  refine lv_iload_n hx hb dX2_isNear_26 rfl (lv_at hl 4 rfl) ?_
  refine mo_ald (v := nI (hT v)) C hw hm 6 (by decide) (by decide) v rfl (show v < 240 by omega) (h6 v (by omega)).1 dX2_isNear_27 ?_
  refine lv_istore (lv' := [(5, .int (nI (hT v))), (4, .int (nI (hT u))), (3, .int ((ar 24 u) - (ar 24 v))), (0, .ref mm), (1, .int (nI u)), (2, .int (nI v))]) hx hb dX2_isNear_28 hl (by decide) rfl (fun ls hl => ?_)
  refine lv_aload_n hx hb dX2_isNear_30 rfl (lv_at hl 3 rfl) ?_
  refine gf_X2_7 C hw hm.1 (v := .ref (ad 3)) rfl dX2_isNear_31 ?_
  refine lv_iload hx hb dX2_isNear_34 (lv_at hl 1 rfl) ?_
  refine mo_ald (v := ar 3 (hT u)) C hw hm 3 (by decide) (by decide) (hT u) rfl (show hT u < 30 by omega) rfl dX2_isNear_36 ?_
  refine lv_aload_n hx hb dX2_isNear_37 rfl (lv_at hl 3 rfl) ?_
  refine gf_X2_7 C hw hm.1 (v := .ref (ad 3)) rfl dX2_isNear_38 ?_
  refine lv_iload hx hb dX2_isNear_41 (lv_at hl 0 rfl) ?_
  refine mo_ald (v := ar 3 (hT v)) C hw hm 3 (by decide) (by decide) (hT v) rfl (show hT v < 30 by omega) rfl dX2_isNear_43 ?_
  refine lv_isub hx hb dX2_isNear_44 ?_
  refine lv_istore (lv' := [(6, .int ((ar 3 (hT u)) - (ar 3 (hT v)))), (5, .int (nI (hT v))), (4, .int (nI (hT u))), (3, .int ((ar 24 u) - (ar 24 v))), (0, .ref mm), (1, .int (nI u)), (2, .int (nI v))]) hx hb dX2_isNear_45 hl (by decide) rfl (fun ls hl => ?_)
  refine lv_aload_n hx hb dX2_isNear_47 rfl (lv_at hl 4 rfl) ?_
  refine gf_X2_13 C hw hm.1 (v := .ref (ad 4)) rfl dX2_isNear_48 ?_
  refine lv_iload hx hb dX2_isNear_51 (lv_at hl 2 rfl) ?_
  refine mo_ald (v := ar 4 (hT u)) C hw hm 4 (by decide) (by decide) (hT u) rfl (show hT u < 30 by omega) rfl dX2_isNear_53 ?_
  refine lv_aload_n hx hb dX2_isNear_54 rfl (lv_at hl 4 rfl) ?_
  refine gf_X2_13 C hw hm.1 (v := .ref (ad 4)) rfl dX2_isNear_55 ?_
  refine lv_iload hx hb dX2_isNear_58 (lv_at hl 1 rfl) ?_
  refine mo_ald (v := ar 4 (hT v)) C hw hm 4 (by decide) (by decide) (hT v) rfl (show hT v < 30 by omega) rfl dX2_isNear_60 ?_
  refine lv_isub hx hb dX2_isNear_61 ?_
  refine lv_istore (lv' := [(7, .int ((ar 4 (hT u)) - (ar 4 (hT v)))), (6, .int ((ar 3 (hT u)) - (ar 3 (hT v)))), (5, .int (nI (hT v))), (4, .int (nI (hT u))), (3, .int ((ar 24 u) - (ar 24 v))), (0, .ref mm), (1, .int (nI u)), (2, .int (nI v))]) hx hb dX2_isNear_62 hl (by decide) rfl (fun ls hl => ?_)
  refine lv_iload hx hb dX2_isNear_64 (lv_at hl 3 rfl) ?_
  refine lv_iload hx hb dX2_isNear_66 (lv_at hl 2 rfl) ?_
  refine tf_icmp_eqN hx hb (hT u) (hT v) rfl rfl (tgt := 123) dX2_isNear_68 (by decide) (by omega) (by omega) (fun c68 => ?_) (fun c68 => ?_)
  · refine lv_iconst (v := 0) hx hb dX2_isNear_123 (by decide) ?_
    refine tf_retz C hw hr hlk dX2_isNear_124 (by first | exact Nat.le_of_ble_eq_true rfl | omega) (by first | exact Nat.le_of_ble_eq_true rfl | omega) (Or.inl rfl) ?_
    refine ⟨?_, rfl⟩
    simp only [pm_nearR, decide_eq_true c68, Bool.not_true, Bool.not_false, Bool.false_and, Bool.true_and]
    rfl
  · refine lv_iload_n hx hb dX2_isNear_71 rfl (lv_at hl 4 rfl) ?_
    refine lv_aload_n hx hb dX2_isNear_72 rfl (lv_at hl 5 rfl) ?_
    refine gf_X2_55 C hw hm.1 (v := .ref (ad 21)) rfl dX2_isNear_73 ?_
    refine lv_iconst (v := 0) hx hb dX2_isNear_76 (by decide) ?_
    refine mo_ald (v := ar 21 0) C hw hm 21 (by decide) (by decide) 0 rfl (show 0 < 4 by omega) rfl dX2_isNear_77 ?_
    refine lv_icmp_gt (tgt := 123) hx hb dX2_isNear_78 (by decide) (fun c78 => ?_) (fun c78 => ?_)
    · refine lv_iconst (v := 0) hx hb dX2_isNear_123 (by decide) ?_
      refine tf_retz C hw hr hlk dX2_isNear_124 (by first | exact Nat.le_of_ble_eq_true rfl | omega) (by first | exact Nat.le_of_ble_eq_true rfl | omega) (Or.inl rfl) ?_
      refine ⟨?_, rfl⟩
      simp only [pm_nearR, decide_eq_false c68, decide_eq_true c78, Bool.not_true, Bool.not_false, Bool.false_and, Bool.true_and]
      rfl
    · refine lv_iload_n hx hb dX2_isNear_81 rfl (lv_at hl 4 rfl) ?_
      refine lv_aload_n hx hb dX2_isNear_82 rfl (lv_at hl 5 rfl) ?_
      refine gf_X2_55 C hw hm.1 (v := .ref (ad 21)) rfl dX2_isNear_83 ?_
      refine lv_iconst (v := 0) hx hb dX2_isNear_86 (by decide) ?_
      refine mo_ald (v := ar 21 0) C hw hm 21 (by decide) (by decide) 0 rfl (show 0 < 4 by omega) rfl dX2_isNear_87 ?_
      refine lv_ineg hx hb dX2_isNear_88 ?_
      refine lv_icmp_lt (tgt := 123) hx hb dX2_isNear_89 (by decide) (fun c89 => ?_) (fun c89 => ?_)
      · refine lv_iconst (v := 0) hx hb dX2_isNear_123 (by decide) ?_
        refine tf_retz C hw hr hlk dX2_isNear_124 (by first | exact Nat.le_of_ble_eq_true rfl | omega) (by first | exact Nat.le_of_ble_eq_true rfl | omega) (Or.inl rfl) ?_
        refine ⟨?_, rfl⟩
        simp only [pm_nearR, decide_eq_false c68, decide_eq_false c78, decide_eq_true c89, Bool.not_true, Bool.not_false, Bool.false_and, Bool.true_and]
        rfl
      · refine lv_iload hx hb dX2_isNear_92 (lv_at hl 1 rfl) ?_
        refine lv_iload hx hb dX2_isNear_94 (lv_at hl 1 rfl) ?_
        refine lv_imul hx hb dX2_isNear_96 ?_
        refine lv_iload hx hb dX2_isNear_97 (lv_at hl 0 rfl) ?_
        refine lv_iload hx hb dX2_isNear_99 (lv_at hl 0 rfl) ?_
        refine lv_imul hx hb dX2_isNear_101 ?_
        refine lv_iadd hx hb dX2_isNear_102 ?_
        refine lv_aload_n hx hb dX2_isNear_103 rfl (lv_at hl 5 rfl) ?_
        refine gf_X2_55 C hw hm.1 (v := .ref (ad 21)) rfl dX2_isNear_104 ?_
        refine lv_iconst (v := 1) hx hb dX2_isNear_107 (by decide) ?_
        refine mo_ald (v := ar 21 1) C hw hm 21 (by decide) (by decide) 1 rfl (show 1 < 4 by omega) rfl dX2_isNear_108 ?_
        refine lv_aload_n hx hb dX2_isNear_109 rfl (lv_at hl 5 rfl) ?_
        refine gf_X2_55 C hw hm.1 (v := .ref (ad 21)) rfl dX2_isNear_110 ?_
        refine lv_iconst (v := 1) hx hb dX2_isNear_113 (by decide) ?_
        refine mo_ald (v := ar 21 1) C hw hm 21 (by decide) (by decide) 1 rfl (show 1 < 4 by omega) rfl dX2_isNear_114 ?_
        refine lv_imul hx hb dX2_isNear_115 ?_
        refine lv_icmp_gt (tgt := 123) hx hb dX2_isNear_116 (by decide) (fun c116 => ?_) (fun c116 => ?_)
        · refine lv_iconst (v := 0) hx hb dX2_isNear_123 (by decide) ?_
          refine tf_retz C hw hr hlk dX2_isNear_124 (by first | exact Nat.le_of_ble_eq_true rfl | omega) (by first | exact Nat.le_of_ble_eq_true rfl | omega) (Or.inl rfl) ?_
          refine ⟨?_, rfl⟩
          simp only [pm_nearR, decide_eq_false c68, decide_eq_false c78, decide_eq_false c89, decide_eq_true c116, Bool.not_true, Bool.not_false, Bool.false_and, Bool.true_and]
          rfl
        · refine lv_iconst (v := 1) hx hb dX2_isNear_119 (by decide) ?_
          refine lv_goto (tgt := 124) hx hb dX2_isNear_120 (by decide) ?_
          refine tf_retz C hw hr hlk dX2_isNear_124 (by first | exact Nat.le_of_ble_eq_true rfl | omega) (by first | exact Nat.le_of_ble_eq_true rfl | omega) (Or.inr rfl) ?_
          refine ⟨?_, rfl⟩
          simp only [pm_nearR, decide_eq_false c68, decide_eq_false c78, decide_eq_false c89, decide_eq_false c116, Bool.not_true, Bool.not_false, Bool.false_and, Bool.true_and]
          rfl

set_option maxHeartbeats 4000000 in
set_option maxRecDepth 100000 in
theorem metX2_isAhead {l : Launch} {S0 : State} {D : va_G} {dA : Nat → ClassId} (hB : tf_B S0 D dA) {sz : Nat} {G : tf_Pic} {mm : Nat} {ad : Nat → Nat} {iv : Nat → Int32} {ar : Nat → Nat → Int32} {fr : Nat → Int64} (hm : mo_W dA mm ad iv ar fr G) {u v : Nat} (hu : u < 240) (hv2 : v < 240) : Met l yX2_isAhead (ws_ yX2_isAhead cX2_isAhead 3 (some .boolean)) (tf_rm 1 0 0) (tf_Pc S0 D sz G [.ref mm, .int (nI u), .int (nI v)]) (tf_Qi S0 D sz G (fun r G1 => r = pt_b (pm_ahead (ar 24) u v) ∧ G1 = G)) 0 0 (tf_A G sz) := by
  refine Met.ofW (cc := cX2_isAhead) (maxL := 3) (ret := (some .boolean)) (by decide) rfl ?_
  intro p e s m args below meth c s₁ B hml hv
  obtain ⟨C, hw, hr, hlk, hin, hargs⟩ := tf_enter hB B hml hv
  subst hargs
  have C : tf_C p s m ([.ref mm, .int (nI u), .int (nI v)] : List Value).toArray c cX2_isAhead 3 RX2 S0 D dA := C
  have hx := C.hx
  have hb := C.hb
  change W p l e (tf_rm 1 0 0) s m ([.ref mm, .int (nI u), .int (nI v)] : List Value).toArray below meth c s.heap [] 0 0 (MQ below (tf_Qi S0 D sz G (fun r G1 => r = pt_b (pm_ahead (ar 24) u v) ∧ G1 = G)) ([.ref mm, .int (nI u), .int (nI v)] : List Value).toArray s 0 0 (tf_A G sz)) (entryFrame m ([.ref mm, .int (nI u), .int (nI v)] : List Value).toArray 3)
  refine tf_start [.ref mm, .int (nI u), .int (nI v)] (Nat.le_of_ble_eq_true rfl) (fun ls hl => ?_)
  have hl : lv_has ls 3 [(0, .ref mm), (1, .int (nI u)), (2, .int (nI v))] := hl
  refine lv_aload_n hx hb dX2_isAhead_0 rfl (lv_at hl 0 rfl) ?_
  refine gf_X2_61 C hw hm.1 (v := .ref (ad 24)) rfl dX2_isAhead_1 ?_
  refine lv_iload_n hx hb dX2_isAhead_4 rfl (lv_at hl 1 rfl) ?_
  refine mo_ald (v := ar 24 u) C hw hm 24 (by decide) (by decide) u rfl (show u < 240 by omega) rfl dX2_isAhead_5 ?_
  refine lv_aload_n hx hb dX2_isAhead_6 rfl (lv_at hl 0 rfl) ?_
  refine gf_X2_61 C hw hm.1 (v := .ref (ad 24)) rfl dX2_isAhead_7 ?_
  refine lv_iload_n hx hb dX2_isAhead_10 rfl (lv_at hl 2 rfl) ?_
  refine mo_ald (v := ar 24 v) C hw hm 24 (by decide) (by decide) v rfl (show v < 240 by omega) rfl dX2_isAhead_11 ?_
  refine lv_icmp_lt (tgt := 35) hx hb dX2_isAhead_12 (by decide) (fun c12 => ?_) (fun c12 => ?_)
  · refine lv_iconst (v := 1) hx hb dX2_isAhead_35 (by decide) ?_
    refine lv_goto (tgt := 40) hx hb dX2_isAhead_36 (by decide) ?_
    refine tf_retz C hw hr hlk dX2_isAhead_40 (by first | exact Nat.le_of_ble_eq_true rfl | omega) (by first | exact Nat.le_of_ble_eq_true rfl | omega) (Or.inr rfl) ?_
    refine ⟨?_, rfl⟩
    simp only [pm_ahead, decide_eq_true c12, Bool.true_or]
    rfl
  · refine lv_aload_n hx hb dX2_isAhead_15 rfl (lv_at hl 0 rfl) ?_
    refine gf_X2_61 C hw hm.1 (v := .ref (ad 24)) rfl dX2_isAhead_16 ?_
    refine lv_iload_n hx hb dX2_isAhead_19 rfl (lv_at hl 1 rfl) ?_
    refine mo_ald (v := ar 24 u) C hw hm 24 (by decide) (by decide) u rfl (show u < 240 by omega) rfl dX2_isAhead_20 ?_
    refine lv_aload_n hx hb dX2_isAhead_21 rfl (lv_at hl 0 rfl) ?_
    refine gf_X2_61 C hw hm.1 (v := .ref (ad 24)) rfl dX2_isAhead_22 ?_
    refine lv_iload_n hx hb dX2_isAhead_25 rfl (lv_at hl 2 rfl) ?_
    refine mo_ald (v := ar 24 v) C hw hm 24 (by decide) (by decide) v rfl (show v < 240 by omega) rfl dX2_isAhead_26 ?_
    refine lv_icmp_ne (tgt := 39) hx hb dX2_isAhead_27 (by decide) (fun c27 => ?_) (fun c27 => ?_)
    · refine lv_iconst (v := 0) hx hb dX2_isAhead_39 (by decide) ?_
      refine tf_retz C hw hr hlk dX2_isAhead_40 (by first | exact Nat.le_of_ble_eq_true rfl | omega) (by first | exact Nat.le_of_ble_eq_true rfl | omega) (Or.inl rfl) ?_
      refine ⟨?_, rfl⟩
      simp only [pm_ahead, decide_eq_false c12, decide_eq_false c27, Bool.false_and, Bool.or_self]
      rfl
    · refine lv_iload_n hx hb dX2_isAhead_30 rfl (lv_at hl 1 rfl) ?_
      refine lv_iload_n hx hb dX2_isAhead_31 rfl (lv_at hl 2 rfl) ?_
      refine tf_icmp_geN hx hb u v rfl rfl (tgt := 39) dX2_isAhead_32 (by decide) (by omega) (by omega) (fun c32 => ?_) (fun c32 => ?_)
      · refine lv_iconst (v := 0) hx hb dX2_isAhead_39 (by decide) ?_
        refine tf_retz C hw hr hlk dX2_isAhead_40 (by first | exact Nat.le_of_ble_eq_true rfl | omega) (by first | exact Nat.le_of_ble_eq_true rfl | omega) (Or.inl rfl) ?_
        refine ⟨?_, rfl⟩
        simp only [pm_ahead, decide_eq_false c12, decide_eq_true c27, Bool.true_and, Bool.false_or, decide_eq_false (Nat.not_lt.mpr c32)]
        rfl
      · refine lv_iconst (v := 1) hx hb dX2_isAhead_35 (by decide) ?_
        refine lv_goto (tgt := 40) hx hb dX2_isAhead_36 (by decide) ?_
        refine tf_retz C hw hr hlk dX2_isAhead_40 (by first | exact Nat.le_of_ble_eq_true rfl | omega) (by first | exact Nat.le_of_ble_eq_true rfl | omega) (Or.inr rfl) ?_
        refine ⟨?_, rfl⟩
        simp only [pm_ahead, decide_eq_false c12, decide_eq_true c27, Bool.true_and, Bool.false_or, decide_eq_true c32]
        rfl

/-- the arrays of joining: right times, groups, queue -/
def pm_ar3 (ar : Nat → Nat → Int32) (R g q : Nat → Int32) : Nat → Nat → Int32 := va_up (va_up (va_up ar 24 R) 23 g) 25 q
theorem pm_ar3_0 (ar : Nat → Nat → Int32) : ar = pm_ar3 ar (ar 24) (ar 23) (ar 25) := by
  funext j
  by_cases h1 : j = 25
  · subst h1; rfl
  · by_cases h2 : j = 23
    · subst h2; rfl
    · by_cases h3 : j = 24
      · subst h3; rfl
      · simp [pm_ar3, va_up, h1, h2, h3]
theorem pm_ar3_24 {ar : Nat → Nat → Int32} {R g q f f2 : Nat → Int32} (h : f = f2) : va_up (pm_ar3 ar R g q) 24 f = pm_ar3 ar f2 g q := by
  subst h
  funext j
  by_cases h1 : j = 24
  · subst h1; rfl
  · simp [pm_ar3, va_up, h1]
theorem pm_ar3_23 {ar : Nat → Nat → Int32} {R g q f f2 : Nat → Int32} (h : f = f2) : va_up (pm_ar3 ar R g q) 23 f = pm_ar3 ar R f2 q := by
  subst h
  funext j
  by_cases h1 : j = 23
  · subst h1; rfl
  · simp [pm_ar3, va_up, h1]
theorem pm_ar3_25 {ar : Nat → Nat → Int32} {R g q f f2 : Nat → Int32} (h : f = f2) : va_up (pm_ar3 ar R g q) 25 f = pm_ar3 ar R g f2 := by
  subst h
  funext j
  by_cases h1 : j = 25
  · subst h1; rfl
  · simp [pm_ar3, va_up, h1]
theorem pm_right3 (ar : Nat → Nat → Int32) (R g q : Nat → Int32) (h : Nat) : ∀ k, pm_rightL (pm_ar3 ar R g q) h k = pm_rightL ar h k := by
  intro k
  induction k with
  | zero => rfl
  | succ k ih =>
    show (if ar 11 k = ar 6 h then (if ar 7 h < ar 12 k then pm_rightL (pm_ar3 ar R g q) h k else ar 7 h - ar 13 k) else pm_rightL (pm_ar3 ar R g q) h k) = _
    rw [ih]
    rfl
theorem pm_dut3 (ar : Nat → Nat → Int32) (R g q : Nat → Int32) (t u : Int32) : ∀ k, pm_dutL (pm_ar3 ar R g q) t u k = pm_dutL ar t u k := by
  intro k
  induction k with
  | zero => rfl
  | succ k ih =>
    show (if ar 15 k = t then (if u < ar 16 k then pm_dutL (pm_ar3 ar R g q) t u k else if ar 17 k ≤ u then pm_dutL (pm_ar3 ar R g q) t u k else if ar 17 k ≤ pm_dutL (pm_ar3 ar R g q) t u k then pm_dutL (pm_ar3 ar R g q) t u k else ar 17 k) else pm_dutL (pm_ar3 ar R g q) t u k) = _
    rw [ih]
    rfl
theorem pm_look3 (ar : Nat → Nat → Int32) (R g q : Nat → Int32) (nd h : Nat) : pm_look (pm_ar3 ar R g q) nd h = pm_look ar nd h := by
  show decide (pm_dutL (pm_ar3 ar R g q) (ar 6 h) (ar 7 h) nd = -9) = _
  rw [pm_dut3]
  rfl
def pm_mix (f g : Nat → Int32) (k : Nat) : Nat → Int32 := fun j => if j < k then f j else g j
theorem pm_mix0 (f g : Nat → Int32) : g = pm_mix f g 0 := by
  funext j
  simp [pm_mix]
theorem pm_mix1 (f g : Nat → Int32) (k : Nat) {v : Int32} (h : v = f k) : upd (pm_mix f g k) k v = pm_mix f g (k + 1) := by
  subst h
  funext j
  simp only [upd, pm_mix]
  by_cases e : j = k
  · rw [if_pos e, if_pos (by omega), e]
  · rw [if_neg e]
    by_cases e2 : j < k
    · rw [if_pos e2, if_pos (by omega)]
    · rw [if_neg e2, if_neg (by omega)]
/-- does a hit count: not of the tank left out, looked at, enough -/
def pm_ask (ar : Nat → Nat → Int32) (hT : Nat → Nat) (nd : Nat) (wo : Int32) (h : Nat) : Bool := !decide (nI (hT h) = wo) && (pm_look ar nd h && !decide (pm_amt ar h < ar 21 3))
def pm_g0 (ar : Nat → Nat → Int32) (hT : Nat → Nat) (nd : Nat) (wo : Int32) (h : Nat) : Int32 := if pm_ask ar hT nd wo h then -9 else -1
abbrev pm_JS : Type := (Nat → Int32) × (Nat → Int32) × Nat
def pm_jinL (nr : Nat → Nat → Bool) (c : Int32) (k : Nat) (s : pm_JS) : Nat → pm_JS
  | 0 => s
  | g + 1 => if (pm_jinL nr c k s g).1 g = -9 then (if nr ((pm_jinL nr c k s g).2.1 k).toNatClampNeg g then (upd (pm_jinL nr c k s g).1 g c, upd (pm_jinL nr c k s g).2.1 (pm_jinL nr c k s g).2.2 (nI g), (pm_jinL nr c k s g).2.2 + 1) else pm_jinL nr c k s g) else pm_jinL nr c k s g
def pm_jmidL (nr : Nat → Nat → Bool) (nh : Nat) (c : Int32) (s : pm_JS) : Nat → pm_JS
  | 0 => s
  | k + 1 => if k < (pm_jmidL nr nh c s k).2.2 then pm_jinL nr c k (pm_jmidL nr nh c s k) nh else pm_jmidL nr nh c s k
def pm_joutL (nr : Nat → Nat → Bool) (nh : Nat) (g0 q0 : Nat → Int32) : Nat → (Nat → Int32) × (Nat → Int32)
  | 0 => (g0, q0)
  | h + 1 => if (pm_joutL nr nh g0 q0 h).1 h = -9 then ((pm_jmidL nr nh (nI h) (upd (pm_joutL nr nh g0 q0 h).1 h (nI h), upd (pm_joutL nr nh g0 q0 h).2 0 (nI h), 1) nh).1, (pm_jmidL nr nh (nI h) (upd (pm_joutL nr nh g0 q0 h).1 h (nI h), upd (pm_joutL nr nh g0 q0 h).2 0 (nI h), 1) nh).2.1) else pm_joutL nr nh g0 q0 h
/-- the queue's bound: those in it and those without a group are no more than the hits -/
def pm_JOK (nh : Nat) (s : pm_JS) : Prop := s.2.2 + pm_cnt (fun u => decide (s.1 u = -9)) nh ≤ nh ∧ ∀ i, i < s.2.2 → ∃ u, u < nh ∧ s.2.1 i = nI u
theorem pm_cnt_upd {f : Nat → Int32} {c : Int32} (hc : ¬ c = -9) {g : Nat} (hg : f g = -9) : ∀ n, g < n → pm_cnt (fun u => decide (upd f g c u = -9)) n + 1 = pm_cnt (fun u => decide (f u = -9)) n := by
  have low : ∀ n, n ≤ g → pm_cnt (fun u => decide (upd f g c u = -9)) n = pm_cnt (fun u => decide (f u = -9)) n := by
    intro n
    induction n with
    | zero => intro _; rfl
    | succ n ih =>
      intro h
      have e2 : upd f g c n = f n := pk_un (by omega)
      simp only [pm_cnt, e2]
      rw [ih (by omega)]
  intro n
  induction n with
  | zero => intro h; omega
  | succ n ih =>
    intro h
    by_cases e : g = n
    · subst e
      have e2 : upd f g c g = c := pk_us
      simp only [pm_cnt, e2, decide_eq_false hc, decide_eq_true hg]
      rw [low g (Nat.le_refl _)]
      simp
    · have e2 : upd f g c n = f n := pk_un (fun z => e z.symm)
      simp only [pm_cnt, e2]
      have := ih (by omega)
      omega
theorem pm_cnt_pos {p : Nat → Bool} {g : Nat} (h : p g = true) : ∀ n, g < n → 0 < pm_cnt p n := by
  intro n
  induction n with
  | zero => intro h; omega
  | succ n ih =>
    intro hn
    simp only [pm_cnt]
    by_cases e : g = n
    · subst e
      rw [h]
      simp
    · have := ih (by omega)
      omega
theorem pm_JOK_in {nr : Nat → Nat → Bool} {c : Int32} (hc : ¬ c = -9) {k nh : Nat} {s : pm_JS} (h : pm_JOK nh s) : ∀ g, g ≤ nh → pm_JOK nh (pm_jinL nr c k s g) ∧ s.2.2 ≤ (pm_jinL nr c k s g).2.2 := by
  intro g
  induction g with
  | zero => intro _; exact ⟨h, Nat.le_refl _⟩
  | succ g ih =>
    intro hg
    obtain ⟨h1, h2⟩ := ih (by omega)
    simp only [pm_jinL]
    split
    · rename_i h9
      split
      · refine ⟨⟨?_, fun i hi => ?_⟩, by show _ ≤ _ + 1; omega⟩
        · have e := pm_cnt_upd hc h9 nh (by omega)
          have := h1.1
          show (pm_jinL nr c k s g).2.2 + 1 + pm_cnt (fun u => decide (upd (pm_jinL nr c k s g).1 g c u = -9)) nh ≤ nh
          omega
        · by_cases e : i = (pm_jinL nr c k s g).2.2
          · exact ⟨g, by omega, by rw [e]; exact pk_us⟩
          · have hi2 : i < (pm_jinL nr c k s g).2.2 := by
              have : i < (pm_jinL nr c k s g).2.2 + 1 := hi
              omega
            obtain ⟨u, hu, hq⟩ := h1.2 i hi2
            exact ⟨u, hu, by rw [← hq]; exact pk_un e⟩
      · exact ⟨h1, h2⟩
    · exact ⟨h1, h2⟩
theorem pm_JOK_mid {nr : Nat → Nat → Bool} {c : Int32} (hc : ¬ c = -9) {nh : Nat} {s : pm_JS} (h : pm_JOK nh s) : ∀ k, pm_JOK nh (pm_jmidL nr nh c s k) := by
  intro k
  induction k with
  | zero => exact h
  | succ k ih =>
    simp only [pm_jmidL]
    split
    · exact (pm_JOK_in hc ih nh (Nat.le_refl _)).1
    · exact ih
/-- behind its end the middle loop does nothing -/
theorem pm_jmid_stop {nr : Nat → Nat → Bool} {nh : Nat} {c : Int32} {s : pm_JS} {k : Nat} (h : (pm_jmidL nr nh c s k).2.2 ≤ k) : ∀ d, pm_jmidL nr nh c s (k + d) = pm_jmidL nr nh c s k := by
  intro d
  induction d with
  | zero => rfl
  | succ d ih =>
    show (if k + d < (pm_jmidL nr nh c s (k + d)).2.2 then _ else pm_jmidL nr nh c s (k + d)) = _
    rw [ih, if_neg (by omega)]
theorem pm_n9 {k : Nat} (h : k < 2 ^ 31) : ¬ nI k = -9 := fun e => by
  have h1 := congrArg Int32.toInt e
  rw [nI_toInt h] at h1
  have e2 : (-9 : Int32).toInt = -9 := by decide
  omega
theorem pm_JOK_start {nh h : Nat} {g : Nat → Int32} {q : Nat → Int32} (hh : h < nh) (hn : nh ≤ 240) (h9 : g h = -9) : pm_JOK nh (upd g h (nI h), upd q 0 (nI h), 1) := by
  refine ⟨?_, fun i hi => ⟨h, hh, ?_⟩⟩
  · have e := pm_cnt_upd (pm_n9 (show h < 2 ^ 31 by omega)) h9 nh hh
    have := pm_cnt_le (fun u => decide (g u = -9)) nh
    show 1 + pm_cnt (fun u => decide (upd g h (nI h) u = -9)) nh ≤ nh
    omega
  · have hi2 : i < 1 := hi
    have e : i = 0 := by omega
    rw [e]
    show upd q 0 (nI h) 0 = nI h
    exact pk_us

set_option maxHeartbeats 8000000 in
set_option maxRecDepth 100000 in
theorem metX2_join {l : Launch} {S0 : State} {D : va_G} {dA : Nat → ClassId} (hB : tf_B S0 D dA) {sz : Nat} {G : tf_Pic} {mm : Nat} {ad : Nat → Nat} {iv : Nat → Int32} {ar : Nat → Nat → Int32} {fr : Nat → Int64} (hm : mo_W dA mm ad iv ar fr G) {nT nh nc nd ne nk : Nat} {hT kf kh : Nat → Nat} (hI : mo_I iv ar nT nh nc nd ne nk hT kf kh) (wo : Int32) : Met l yX2_join (ws_ yX2_join cX2_join 6 none) (tf_rm 3 0 0) (tf_Pc S0 D sz G [.ref mm, .int wo]) (tf_Qv S0 D sz G (fun G1 => mo_W dA mm ad iv (pm_ar3 ar (pm_mix (fun j => pm_rightL ar j nc) (ar 24) nh) (pm_joutL (pm_nearR ar (pm_mix (fun j => pm_rightL ar j nc) (ar 24) nh) hT) nh (pm_mix (pm_g0 ar hT nd wo) (ar 23) nh) (ar 25) nh).1 (pm_joutL (pm_nearR ar (pm_mix (fun j => pm_rightL ar j nc) (ar 24) nh) hT) nh (pm_mix (pm_g0 ar hT nd wo) (ar 23) nh) (ar 25) nh).2) fr G1)) 0 0 (tf_A G sz) := by
  refine Met.ofW (cc := cX2_join) (maxL := 6) (ret := none) (by decide) rfl ?_
  intro p e s m args below meth c s₁ B hml hv
  obtain ⟨C, hw, hr, hlk, hin, hargs⟩ := tf_enter hB B hml hv
  subst hargs
  have C : tf_C p s m ([.ref mm, .int wo] : List Value).toArray c cX2_join 6 RX2 S0 D dA := C
  have hx := C.hx
  have hb := C.hb
  change W p l e (tf_rm 3 0 0) s m ([.ref mm, .int wo] : List Value).toArray below meth c s.heap [] 0 0 (MQ below (tf_Qv S0 D sz G (fun G1 => mo_W dA mm ad iv (pm_ar3 ar (pm_mix (fun j => pm_rightL ar j nc) (ar 24) nh) (pm_joutL (pm_nearR ar (pm_mix (fun j => pm_rightL ar j nc) (ar 24) nh) hT) nh (pm_mix (pm_g0 ar hT nd wo) (ar 23) nh) (ar 25) nh).1 (pm_joutL (pm_nearR ar (pm_mix (fun j => pm_rightL ar j nc) (ar 24) nh) hT) nh (pm_mix (pm_g0 ar hT nd wo) (ar 23) nh) (ar 25) nh).2) fr G1)) ([.ref mm, .int wo] : List Value).toArray s 0 0 (tf_A G sz)) (entryFrame m ([.ref mm, .int wo] : List Value).toArray 6)
  have hI0 := hI
  obtain ⟨hk2, hnT, hk5, hnh, h6, hk10, hnc, hk14, hnd, hk30, hne, hk31, hnk, h32, hkf0, hkfn, hkfs, h33⟩ := hI
  have hm := mo_eq (pm_ar3_0 ar) hm
  refine tf_start [.ref mm, .int wo] (Nat.le_of_ble_eq_true rfl) (fun ls hl => ?_)
  have hl : lv_has ls 6 [(0, .ref mm), (1, .int wo)] := hl
  refine lv_iconst (v := 0) hx hb dX2_join_0 (by decide) ?_
  refine lv_istore_n (lv' := [(2, .int 0), (0, .ref mm), (1, .int wo)]) hx hb dX2_join_1 rfl hl (by decide) rfl (fun ls hl => ?_)
  have hm := mo_eq (show pm_ar3 ar (ar 24) (ar 23) (ar 25) = pm_ar3 ar (pm_mix (fun j => pm_rightL ar j nc) (ar 24) 0) (pm_mix (pm_g0 ar hT nd wo) (ar 23) 0) (ar 25) by rw [← pm_mix0, ← pm_mix0]) hm
  have b2 : ∀ (fuel : Nat) (h : Nat) (Gx : tf_Pic), nh - h < fuel → (h ≤ nh) → (mo_W dA mm ad iv (pm_ar3 ar (pm_mix (fun j => pm_rightL ar j nc) (ar 24) h) (pm_mix (pm_g0 ar hT nd wo) (ar 23) h) (ar 25)) fr Gx) → ∀ (H : Heap) (locs : List Loc), tf_Wd S0 D (tf_A G sz) s.heap Gx H locs → ∀ (ls : Array Slot), lv_has ls 6 [(2, .int (nI h)), (0, .ref mm), (1, .int wo)] → W p l e (tf_rm 3 0 0) s m ([.ref mm, .int wo] : List Value).toArray below meth c H locs 0 0 (MQ below (tf_Qv S0 D sz G (fun G1 => mo_W dA mm ad iv (pm_ar3 ar (pm_mix (fun j => pm_rightL ar j nc) (ar 24) nh) (pm_joutL (pm_nearR ar (pm_mix (fun j => pm_rightL ar j nc) (ar 24) nh) hT) nh (pm_mix (pm_g0 ar hT nd wo) (ar 23) nh) (ar 25) nh).1 (pm_joutL (pm_nearR ar (pm_mix (fun j => pm_rightL ar j nc) (ar 24) nh) hT) nh (pm_mix (pm_g0 ar hT nd wo) (ar 23) nh) (ar 25) nh).2) fr G1)) ([.ref mm, .int wo] : List Value).toArray s 0 0 (tf_A G sz)) (F0 m 2 ls []) := by
    intro fuel2
    induction fuel2 with
    | zero => intro h Gx hfu2; exact absurd hfu2 (Nat.not_lt_zero _)
    | succ fuel2 ih2 =>
      intro h Gx hfu2 hh hm H locs hw ls hl
      refine lv_iload_n hx hb dX2_join_2 rfl (lv_at hl 0 rfl) ?_
      refine lv_aload_n hx hb dX2_join_3 rfl (lv_at hl 1 rfl) ?_
      refine gf_X2_107 C hw hm.1 (v := .int (nI nh)) (by rw [← hk5]; rfl) dX2_join_4 ?_
      refine tf_icmp_geN hx hb h nh rfl rfl (tgt := 81) dX2_join_7 (by decide) (by omega) (by omega) (fun c7 => ?_) (fun c7 => ?_)
      · refine lv_iconst (v := 0) hx hb dX2_join_81 (by decide) ?_
        refine lv_istore_n (lv' := [(2, .int 0), (0, .ref mm), (1, .int wo)]) hx hb dX2_join_82 rfl hl (by decide) rfl (fun ls hl => ?_)
        have hhn : h = nh := by omega
        rw [hhn] at hm
        have b83 : ∀ (fuel : Nat) (h : Nat) (og oq : Nat → Int32) (Gx : tf_Pic), nh - h < fuel → (h ≤ nh) → ((og, oq) = pm_joutL (pm_nearR ar (pm_mix (fun j => pm_rightL ar j nc) (ar 24) nh) hT) nh (pm_mix (pm_g0 ar hT nd wo) (ar 23) nh) (ar 25) h) → (mo_W dA mm ad iv (pm_ar3 ar (pm_mix (fun j => pm_rightL ar j nc) (ar 24) nh) og oq) fr Gx) → ∀ (H : Heap) (locs : List Loc), tf_Wd S0 D (tf_A G sz) s.heap Gx H locs → ∀ (ls : Array Slot), lv_has ls 6 [(2, .int (nI h)), (0, .ref mm), (1, .int wo)] → W p l e (tf_rm 3 0 0) s m ([.ref mm, .int wo] : List Value).toArray below meth c H locs 0 0 (MQ below (tf_Qv S0 D sz G (fun G1 => mo_W dA mm ad iv (pm_ar3 ar (pm_mix (fun j => pm_rightL ar j nc) (ar 24) nh) (pm_joutL (pm_nearR ar (pm_mix (fun j => pm_rightL ar j nc) (ar 24) nh) hT) nh (pm_mix (pm_g0 ar hT nd wo) (ar 23) nh) (ar 25) nh).1 (pm_joutL (pm_nearR ar (pm_mix (fun j => pm_rightL ar j nc) (ar 24) nh) hT) nh (pm_mix (pm_g0 ar hT nd wo) (ar 23) nh) (ar 25) nh).2) fr G1)) ([.ref mm, .int wo] : List Value).toArray s 0 0 (tf_A G sz)) (F0 m 83 ls []) := by
          intro fuel83
          induction fuel83 with
          | zero => intro h og oq Gx hfu83; exact absurd hfu83 (Nat.not_lt_zero _)
          | succ fuel83 ih83 =>
            intro h og oq Gx hfu83 hh hso hm H locs hw ls hl
            refine lv_iload_n hx hb dX2_join_83 rfl (lv_at hl 0 rfl) ?_
            refine lv_aload_n hx hb dX2_join_84 rfl (lv_at hl 1 rfl) ?_
            refine gf_X2_107 C hw hm.1 (v := .int (nI nh)) (by rw [← hk5]; rfl) dX2_join_85 ?_
            refine tf_icmp_geN hx hb h nh rfl rfl (tgt := 207) dX2_join_88 (by decide) (by omega) (by omega) (fun c88 => ?_) (fun c88 => ?_)
            · refine tf_retv C hw hr hlk dX2_join_207 (by first | exact Nat.le_of_ble_eq_true rfl | omega) (by first | exact Nat.le_of_ble_eq_true rfl | omega) ?_
              have hhn : h = nh := by omega
              rw [hhn] at hso
              rw [← hso]
              exact hm
            · refine lv_aload_n hx hb dX2_join_91 rfl (lv_at hl 1 rfl) ?_
              refine gf_X2_58 C hw hm.1 (v := .ref (ad 23)) rfl dX2_join_92 ?_
              refine lv_iload_n hx hb dX2_join_95 rfl (lv_at hl 0 rfl) ?_
              refine mo_ald (v := og h) C hw hm 23 (by decide) (by decide) h rfl (show h < 240 by omega) rfl dX2_join_96 ?_
              refine lv_bipush (v := (-9)) hx hb dX2_join_97 (by decide) ?_
              refine lv_icmp_eq (tgt := 105) hx hb dX2_join_99 (by decide) (fun c99 => ?_) (fun c99 => ?_)
              · refine lv_aload_n hx hb dX2_join_105 rfl (lv_at hl 1 rfl) ?_
                refine gf_X2_58 C hw hm.1 (v := .ref (ad 23)) rfl dX2_join_106 ?_
                refine lv_iload_n hx hb dX2_join_109 rfl (lv_at hl 0 rfl) ?_
                refine lv_iload_n hx hb dX2_join_110 rfl (lv_at hl 0 rfl) ?_
                refine mo_ast C hw hm 23 (by decide) (by decide) og rfl h rfl (show h < 240 by omega) dX2_join_111 (fun G1 H locs hm hw => ?_)
                have hm := mo_eq (pm_ar3_23 (show _ = upd og h (nI h) from rfl)) hm
                refine lv_aload_n hx hb dX2_join_112 rfl (lv_at hl 1 rfl) ?_
                refine gf_X2_64 C hw hm.1 (v := .ref (ad 25)) rfl dX2_join_113 ?_
                refine lv_iconst (v := 0) hx hb dX2_join_116 (by decide) ?_
                refine lv_iload_n hx hb dX2_join_117 rfl (lv_at hl 0 rfl) ?_
                refine mo_ast C hw hm 25 (by decide) (by decide) oq rfl 0 rfl (show 0 < 240 by omega) dX2_join_118 (fun G2 H locs hm hw => ?_)
                have hm := mo_eq (pm_ar3_25 (show _ = upd oq 0 (nI h) from rfl)) hm
                refine lv_iconst (v := 1) hx hb dX2_join_119 (by decide) ?_
                refine lv_istore_n (lv' := [(3, .int 1), (2, .int (nI h)), (0, .ref mm), (1, .int wo)]) hx hb dX2_join_120 rfl hl (by decide) rfl (fun ls hl => ?_)
                refine lv_iconst (v := 0) hx hb dX2_join_121 (by decide) ?_
                refine lv_istore (lv' := [(4, .int 0), (3, .int 1), (2, .int (nI h)), (0, .ref mm), (1, .int wo)]) hx hb dX2_join_122 hl (by decide) rfl (fun ls hl => ?_)
                have hJ0 : pm_JOK nh (upd og h (nI h), upd oq 0 (nI h), 1) := pm_JOK_start (by omega) hnh c99
                have b124 : ∀ (fuel : Nat) (k : Nat) (sg sq : Nat → Int32) (sn : Nat) (Gx : tf_Pic), nh - k < fuel → (k ≤ nh) → ((sg, sq, sn) = pm_jmidL (pm_nearR ar (pm_mix (fun j => pm_rightL ar j nc) (ar 24) nh) hT) nh (nI h) (upd og h (nI h), upd oq 0 (nI h), 1) k) → (mo_W dA mm ad iv (pm_ar3 ar (pm_mix (fun j => pm_rightL ar j nc) (ar 24) nh) sg sq) fr Gx) → ∀ (H : Heap) (locs : List Loc), tf_Wd S0 D (tf_A G sz) s.heap Gx H locs → ∀ (ls : Array Slot), lv_has ls 6 [(4, .int (nI k)), (3, .int (nI sn)), (2, .int (nI h)), (0, .ref mm), (1, .int wo)] → W p l e (tf_rm 3 0 0) s m ([.ref mm, .int wo] : List Value).toArray below meth c H locs 0 0 (MQ below (tf_Qv S0 D sz G (fun G1 => mo_W dA mm ad iv (pm_ar3 ar (pm_mix (fun j => pm_rightL ar j nc) (ar 24) nh) (pm_joutL (pm_nearR ar (pm_mix (fun j => pm_rightL ar j nc) (ar 24) nh) hT) nh (pm_mix (pm_g0 ar hT nd wo) (ar 23) nh) (ar 25) nh).1 (pm_joutL (pm_nearR ar (pm_mix (fun j => pm_rightL ar j nc) (ar 24) nh) hT) nh (pm_mix (pm_g0 ar hT nd wo) (ar 23) nh) (ar 25) nh).2) fr G1)) ([.ref mm, .int wo] : List Value).toArray s 0 0 (tf_A G sz)) (F0 m 124 ls []) := by
                  intro fuel124
                  induction fuel124 with
                  | zero => intro k sg sq sn Gx hfu124; exact absurd hfu124 (Nat.not_lt_zero _)
                  | succ fuel124 ih124 =>
                    intro k sg sq sn Gx hfu124 hk hs hm H locs hw ls hl
                    have hJ : pm_JOK nh (sg, sq, sn) := by rw [hs]; exact pm_JOK_mid (pm_n9 (by omega)) hJ0 k
                    have hJn : sn ≤ nh := Nat.le_trans (Nat.le_add_right _ _) hJ.1
                    refine lv_iload hx hb dX2_join_124 (lv_at hl 0 rfl) ?_
                    refine lv_iload_n hx hb dX2_join_126 rfl (lv_at hl 1 rfl) ?_
                    refine tf_icmp_geN hx hb k sn rfl rfl (tgt := 201) dX2_join_127 (by decide) (by omega) (by omega) (fun c127 => ?_) (fun c127 => ?_)
                    · have hz := pm_jmid_stop (nr := pm_nearR ar (pm_mix (fun j => pm_rightL ar j nc) (ar 24) nh) hT) (nh := nh) (c := nI h) (s := (upd og h (nI h), upd oq 0 (nI h), 1)) (k := k) (by rw [← hs]; exact c127) (nh - k)
                      rw [show k + (nh - k) = nh by omega, ← hs] at hz
                      have hso2 : (sg, sq) = pm_joutL (pm_nearR ar (pm_mix (fun j => pm_rightL ar j nc) (ar 24) nh) hT) nh (pm_mix (pm_g0 ar hT nd wo) (ar 23) nh) (ar 25) (h + 1) := by
                        simp only [pm_joutL, ← hso]
                        rw [if_pos c99, hz]
                      refine lv_iinc (v := nI (h + 1)) (lv' := [(2, .int (nI (h + 1))), (4, .int (nI k)), (3, .int (nI sn)), (0, .ref mm), (1, .int wo)]) hx hb dX2_join_201 hl (k := 2) rfl (nI_1 _) (by decide) rfl (fun ls hl => ?_)
                      refine lv_goto (tgt := 83) hx hb dX2_join_204 (by decide) ?_
                      exact ih83 (h + 1) _ _ _ (by omega) (by omega) (hso2) hm _ _ hw ls (lv_sub hl [0, 3, 4] rfl)
                    · refine lv_iconst (v := 0) hx hb dX2_join_130 (by decide) ?_
                      refine lv_istore (lv' := [(5, .int 0), (4, .int (nI k)), (3, .int (nI sn)), (2, .int (nI h)), (0, .ref mm), (1, .int wo)]) hx hb dX2_join_131 hl (by decide) rfl (fun ls hl => ?_)
                      have b133 : ∀ (fuel : Nat) (gg : Nat) (tg tq : Nat → Int32) (tn : Nat) (Gx : tf_Pic), nh - gg < fuel → (gg ≤ nh) → ((tg, tq, tn) = pm_jinL (pm_nearR ar (pm_mix (fun j => pm_rightL ar j nc) (ar 24) nh) hT) (nI h) k (pm_jmidL (pm_nearR ar (pm_mix (fun j => pm_rightL ar j nc) (ar 24) nh) hT) nh (nI h) (upd og h (nI h), upd oq 0 (nI h), 1) k) gg) → (mo_W dA mm ad iv (pm_ar3 ar (pm_mix (fun j => pm_rightL ar j nc) (ar 24) nh) tg tq) fr Gx) → ∀ (H : Heap) (locs : List Loc), tf_Wd S0 D (tf_A G sz) s.heap Gx H locs → ∀ (ls : Array Slot), lv_has ls 6 [(5, .int (nI gg)), (4, .int (nI k)), (3, .int (nI tn)), (2, .int (nI h)), (0, .ref mm), (1, .int wo)] → W p l e (tf_rm 3 0 0) s m ([.ref mm, .int wo] : List Value).toArray below meth c H locs 0 0 (MQ below (tf_Qv S0 D sz G (fun G1 => mo_W dA mm ad iv (pm_ar3 ar (pm_mix (fun j => pm_rightL ar j nc) (ar 24) nh) (pm_joutL (pm_nearR ar (pm_mix (fun j => pm_rightL ar j nc) (ar 24) nh) hT) nh (pm_mix (pm_g0 ar hT nd wo) (ar 23) nh) (ar 25) nh).1 (pm_joutL (pm_nearR ar (pm_mix (fun j => pm_rightL ar j nc) (ar 24) nh) hT) nh (pm_mix (pm_g0 ar hT nd wo) (ar 23) nh) (ar 25) nh).2) fr G1)) ([.ref mm, .int wo] : List Value).toArray s 0 0 (tf_A G sz)) (F0 m 133 ls []) := by
                        intro fuel133
                        induction fuel133 with
                        | zero => intro gg tg tq tn Gx hfu133; exact absurd hfu133 (Nat.not_lt_zero _)
                        | succ fuel133 ih133 =>
                          intro gg tg tq tn Gx hfu133 hgg ht hm H locs hw ls hl
                          have hJt := pm_JOK_in (nr := pm_nearR ar (pm_mix (fun j => pm_rightL ar j nc) (ar 24) nh) hT) (c := nI h) (k := k) (pm_n9 (by omega)) (show pm_JOK nh (pm_jmidL (pm_nearR ar (pm_mix (fun j => pm_rightL ar j nc) (ar 24) nh) hT) nh (nI h) (upd og h (nI h), upd oq 0 (nI h), 1) k) from hs ▸ hJ) gg hgg
                          rw [← ht, ← hs] at hJt
                          obtain ⟨hJ, hJk⟩ := hJt
                          have hJk : sn ≤ tn := hJk
                          refine lv_iload hx hb dX2_join_133 (lv_at hl 0 rfl) ?_
                          refine lv_aload_n hx hb dX2_join_135 rfl (lv_at hl 4 rfl) ?_
                          refine gf_X2_107 C hw hm.1 (v := .int (nI nh)) (by rw [← hk5]; rfl) dX2_join_136 ?_
                          refine tf_icmp_geN hx hb gg nh rfl rfl (tgt := 195) dX2_join_139 (by decide) (by omega) (by omega) (fun c139 => ?_) (fun c139 => ?_)
                          · have hgn : gg = nh := by omega
                            have hs2 : (tg, tq, tn) = pm_jmidL (pm_nearR ar (pm_mix (fun j => pm_rightL ar j nc) (ar 24) nh) hT) nh (nI h) (upd og h (nI h), upd oq 0 (nI h), 1) (k + 1) := by
                              simp only [pm_jmidL, ← hs]
                              rw [if_pos (show k < sn by omega), ht, hgn, ← hs]
                            refine lv_iinc (v := nI (k + 1)) (lv' := [(4, .int (nI (k + 1))), (5, .int (nI gg)), (3, .int (nI tn)), (2, .int (nI h)), (0, .ref mm), (1, .int wo)]) hx hb dX2_join_195 hl (k := 1) rfl (nI_1 _) (by decide) rfl (fun ls hl => ?_)
                            refine lv_goto (tgt := 124) hx hb dX2_join_198 (by decide) ?_
                            exact ih124 (k + 1) _ _ _ _ (by omega) (by omega) hs2 hm _ _ hw ls (lv_sub hl [0, 2, 3, 4, 5] rfl)
                          · refine lv_aload_n hx hb dX2_join_142 rfl (lv_at hl 4 rfl) ?_
                            refine gf_X2_58 C hw hm.1 (v := .ref (ad 23)) rfl dX2_join_143 ?_
                            refine lv_iload hx hb dX2_join_146 (lv_at hl 0 rfl) ?_
                            refine mo_ald (v := tg gg) C hw hm 23 (by decide) (by decide) gg rfl (show gg < 240 by omega) rfl dX2_join_148 ?_
                            refine lv_bipush (v := (-9)) hx hb dX2_join_149 (by decide) ?_
                            refine lv_icmp_ne (tgt := 189) hx hb dX2_join_151 (by decide) (fun c151 => ?_) (fun c151 => ?_)
                            · refine lv_iinc (v := nI (gg + 1)) (lv' := [(5, .int (nI (gg + 1))), (4, .int (nI k)), (3, .int (nI tn)), (2, .int (nI h)), (0, .ref mm), (1, .int wo)]) hx hb dX2_join_189 hl (k := 0) rfl (nI_1 _) (by decide) rfl (fun ls hl => ?_)
                              refine lv_goto (tgt := 133) hx hb dX2_join_192 (by decide) ?_
                              exact ih133 (gg + 1) _ _ _ _ (by omega) (by omega) (by show _ = pm_jinL _ _ _ _ (gg + 1); simp only [pm_jinL, ← ht, if_neg c151]) hm _ _ hw ls hl
                            · have hJ0g : 0 < pm_cnt (fun u => decide (tg u = -9)) nh := pm_cnt_pos (g := gg) (decide_eq_true c151) nh (by omega)
                              have hJ1 := hJ.1
                              have hJ1 : tn + pm_cnt (fun u => decide (tg u = -9)) nh ≤ nh := hJ1
                              obtain ⟨uu, hun, hqu⟩ := hJ.2 k (show k < tn by omega)
                              have hqu : tq k = nI uu := hqu
                              have hqc : (tq k).toNatClampNeg = uu := by rw [hqu]; exact nI_clamp (by omega)
                              refine lv_aload_n hx hb dX2_join_154 rfl (lv_at hl 4 rfl) ?_
                              refine lv_aload_n hx hb dX2_join_155 rfl (lv_at hl 4 rfl) ?_
                              refine gf_X2_64 C hw hm.1 (v := .ref (ad 25)) rfl dX2_join_156 ?_
                              refine lv_iload hx hb dX2_join_159 (lv_at hl 1 rfl) ?_
                              refine mo_ald (v := nI uu) C hw hm 25 (by decide) (by decide) k rfl (show k < 240 by omega) hqu dX2_join_161 ?_
                              refine lv_iload hx hb dX2_join_162 (lv_at hl 0 rfl) ?_
                              refine tf_goi (tf_V (n := 2) C hw hm.1 rfl [.int (nI uu), .int (nI gg)] (metX2_isNear hB hm (show mo_I iv (pm_ar3 ar (pm_mix (fun j => pm_rightL ar j nc) (ar 24) nh) tg tq) nT nh nc nd ne nk hT kf kh from hI0) hun (show gg < nh by omega)) (lw_V q1144 q1146 qs31 q45 q1147) rfl ⟨by decide, by decide, by decide +kernel⟩ ⟨rfl, rfl, Nat.le_of_ble_eq_true rfl, Nat.le_of_ble_eq_true rfl, (by first | exact Nat.le_of_ble_eq_true rfl | (show _ ≤ 0; omega)), (by first | exact Nat.le_of_ble_eq_true rfl | (show _ ≤ 0; omega))⟩ rfl hl rfl (Nat.le_of_ble_eq_true rfl) dX2_join_164) hw (fun r3 G3 H locs hp3 hw => ?_)
                              obtain ⟨hre, hGe⟩ := hp3
                              have hre : r3 = pt_b (pm_nearR ar (pm_mix (fun j => pm_rightL ar j nc) (ar 24) nh) hT uu gg) := hre
                              obtain rfl := hre.symm
                              obtain rfl := hGe.symm
                              refine lv_if_eq (tgt := 189) hx hb dX2_join_167 (by decide) (fun c167 => ?_) (fun c167 => ?_)
                              · replace c167 := pt_b0 c167
                                refine lv_iinc (v := nI (gg + 1)) (lv' := [(5, .int (nI (gg + 1))), (4, .int (nI k)), (3, .int (nI tn)), (2, .int (nI h)), (0, .ref mm), (1, .int wo)]) hx hb dX2_join_189 hl (k := 0) rfl (nI_1 _) (by decide) rfl (fun ls hl => ?_)
                                refine lv_goto (tgt := 133) hx hb dX2_join_192 (by decide) ?_
                                exact ih133 (gg + 1) _ _ _ _ (by omega) (by omega) (by show _ = pm_jinL _ _ _ _ (gg + 1); simp only [pm_jinL, ← ht, if_pos c151, hqc, c167, Bool.false_eq_true, if_false]) hm _ _ hw ls hl
                              · replace c167 := pt_b1 c167
                                refine lv_aload_n hx hb dX2_join_170 rfl (lv_at hl 4 rfl) ?_
                                refine gf_X2_58 C hw hm.1 (v := .ref (ad 23)) rfl dX2_join_171 ?_
                                refine lv_iload hx hb dX2_join_174 (lv_at hl 0 rfl) ?_
                                refine lv_iload_n hx hb dX2_join_176 rfl (lv_at hl 3 rfl) ?_
                                refine mo_ast C hw hm 23 (by decide) (by decide) tg rfl gg rfl (show gg < 240 by omega) dX2_join_177 (fun G4 H locs hm hw => ?_)
                                have hm := mo_eq (pm_ar3_23 (show _ = upd tg gg (nI h) from rfl)) hm
                                refine lv_aload_n hx hb dX2_join_178 rfl (lv_at hl 4 rfl) ?_
                                refine gf_X2_64 C hw hm.1 (v := .ref (ad 25)) rfl dX2_join_179 ?_
                                refine lv_iload_n hx hb dX2_join_182 rfl (lv_at hl 2 rfl) ?_
                                refine lv_iload hx hb dX2_join_183 (lv_at hl 0 rfl) ?_
                                refine mo_ast C hw hm 25 (by decide) (by decide) tq rfl tn rfl (show tn < 240 by omega) dX2_join_185 (fun G5 H locs hm hw => ?_)
                                have hm := mo_eq (pm_ar3_25 (show _ = upd tq tn (nI gg) from rfl)) hm
                                refine lv_iinc (v := nI (tn + 1)) (lv' := [(3, .int (nI (tn + 1))), (5, .int (nI gg)), (4, .int (nI k)), (2, .int (nI h)), (0, .ref mm), (1, .int wo)]) hx hb dX2_join_186 hl (k := 2) rfl (nI_1 _) (by decide) rfl (fun ls hl => ?_)
                                refine lv_iinc (v := nI (gg + 1)) (lv' := [(5, .int (nI (gg + 1))), (3, .int (nI (tn + 1))), (4, .int (nI k)), (2, .int (nI h)), (0, .ref mm), (1, .int wo)]) hx hb dX2_join_189 hl (k := 1) rfl (nI_1 _) (by decide) rfl (fun ls hl => ?_)
                                refine lv_goto (tgt := 133) hx hb dX2_join_192 (by decide) ?_
                                exact ih133 (gg + 1) _ _ _ _ (by omega) (by omega) (by show _ = pm_jinL _ _ _ _ (gg + 1); simp only [pm_jinL, ← ht, if_pos c151, hqc, c167, if_true]) hm _ _ hw ls (lv_sub hl [0, 2, 1, 3, 4, 5] rfl)
                      exact b133 (nh + 1) 0 _ _ _ _ (by omega) (by omega) hs hm _ _ hw ls hl
                exact b124 (nh + 1) 0 _ _ _ _ (by omega) (by omega) rfl hm _ _ hw ls hl
              · refine lv_goto (tgt := 201) hx hb dX2_join_102 (by decide) ?_
                refine lv_iinc (v := nI (h + 1)) (lv' := [(2, .int (nI (h + 1))), (0, .ref mm), (1, .int wo)]) hx hb dX2_join_201 hl (k := 0) rfl (nI_1 _) (by decide) rfl (fun ls hl => ?_)
                refine lv_goto (tgt := 83) hx hb dX2_join_204 (by decide) ?_
                exact ih83 (h + 1) _ _ _ (by omega) (by omega) (by simp only [pm_joutL, ← hso, if_neg c99]) hm _ _ hw ls hl
        exact b83 (nh + 1) 0 _ _ _ (by omega) (by omega) rfl hm _ _ hw ls hl
      · refine lv_aload_n hx hb dX2_join_10 rfl (lv_at hl 1 rfl) ?_
        refine gf_X2_61 C hw hm.1 (v := .ref (ad 24)) rfl dX2_join_11 ?_
        refine lv_iload_n hx hb dX2_join_14 rfl (lv_at hl 0 rfl) ?_
        refine lv_aload_n hx hb dX2_join_15 rfl (lv_at hl 1 rfl) ?_
        refine lv_iload_n hx hb dX2_join_16 rfl (lv_at hl 0 rfl) ?_
        refine tf_goi (tf_V (n := 1) C hw hm.1 rfl [.int (nI h)] (metX2_rightTime hB hm (h := h) (by omega) hk10 hnc) (lw_V q1108 q1110 qs26 q45 q1111) rfl ⟨by decide, by decide, by decide +kernel⟩ ⟨rfl, rfl, Nat.le_of_ble_eq_true rfl, Nat.le_of_ble_eq_true rfl, (by first | exact Nat.le_of_ble_eq_true rfl | (show _ ≤ 0; omega)), (by first | exact Nat.le_of_ble_eq_true rfl | (show _ ≤ 0; omega))⟩ rfl hl rfl (Nat.le_of_ble_eq_true rfl) dX2_join_17) hw (fun r6 G6 H locs hp6 hw => ?_)
        obtain ⟨hre, hGe⟩ := hp6
        rw [pm_right3] at hre
        obtain rfl := hre.symm
        obtain rfl := hGe.symm
        refine mo_ast C hw hm 24 (by decide) (by decide) ((pm_mix (fun j => pm_rightL ar j nc) (ar 24) h)) rfl h rfl (show h < 240 by omega) dX2_join_20 (fun G7 H locs hm hw => ?_)
        have hm := mo_eq (pm_ar3_24 (show _ = upd ((pm_mix (fun j => pm_rightL ar j nc) (ar 24) h)) h (pm_rightL ar h nc) from rfl)) hm
        refine lv_aload_n hx hb dX2_join_21 rfl (lv_at hl 1 rfl) ?_
        refine gf_X2_16 C hw hm.1 (v := .ref (ad 6)) rfl dX2_join_22 ?_
        refine lv_iload_n hx hb dX2_join_25 rfl (lv_at hl 0 rfl) ?_
        refine mo_ald (v := nI (hT h)) C hw hm 6 (by decide) (by decide) h rfl (show h < 240 by omega) (h6 h (by omega)).1 dX2_join_26 ?_
        refine lv_iload_n hx hb dX2_join_27 rfl (lv_at hl 2 rfl) ?_
        refine lv_icmp_eq (tgt := 57) hx hb dX2_join_28 (by decide) (fun c28 => ?_) (fun c28 => ?_)
        · refine lv_iconst (v := 0) hx hb dX2_join_57 (by decide) ?_
          refine lv_istore_n (lv' := [(3, .int 0), (2, .int (nI h)), (0, .ref mm), (1, .int wo)]) hx hb dX2_join_58 rfl hl (by decide) rfl (fun ls hl => ?_)
          refine lv_aload_n hx hb dX2_join_59 rfl (lv_at hl 2 rfl) ?_
          refine gf_X2_58 C hw hm.1 (v := .ref (ad 23)) rfl dX2_join_60 ?_
          refine lv_iload_n hx hb dX2_join_63 rfl (lv_at hl 1 rfl) ?_
          refine lv_iload_n hx hb dX2_join_64 rfl (lv_at hl 0 rfl) ?_
          refine lv_if_eq (tgt := 73) hx hb dX2_join_65 (by decide) (fun c65 => ?_) (fun c65 => absurd c65 (not_not_intro rfl))
          refine lv_iconst (v := (-1)) hx hb dX2_join_73 (by decide) ?_
          refine mo_ast C hw hm 23 (by decide) (by decide) ((pm_mix (pm_g0 ar hT nd wo) (ar 23) h)) rfl h rfl (show h < 240 by omega) dX2_join_74 (fun G8 H locs hm hw => ?_)
          have hm := mo_eq (pm_ar3_23 (show _ = upd ((pm_mix (pm_g0 ar hT nd wo) (ar 23) h)) h ((-1)) from rfl)) hm
          have hm := mo_eq (show pm_ar3 ar _ _ _ = pm_ar3 ar (pm_mix (fun j => pm_rightL ar j nc) (ar 24) (h + 1)) (pm_mix (pm_g0 ar hT nd wo) (ar 23) (h + 1)) (ar 25) by rw [pm_mix1 _ _ _ rfl, pm_mix1 _ _ _ (by simp only [pm_g0, pm_ask, decide_eq_true c28, Bool.not_true, Bool.false_and]; rfl)]) hm
          refine lv_iinc (v := nI (h + 1)) (lv' := [(2, .int (nI (h + 1))), (3, .int 0), (0, .ref mm), (1, .int wo)]) hx hb dX2_join_75 hl (k := 1) rfl (nI_1 _) (by decide) rfl (fun ls hl => ?_)
          refine lv_goto (tgt := 2) hx hb dX2_join_78 (by decide) ?_
          exact ih2 (h + 1) _ (by omega) (by omega) hm _ _ hw ls (lv_sub hl [0, 2, 3] rfl)
        · refine lv_aload_n hx hb dX2_join_31 rfl (lv_at hl 1 rfl) ?_
          refine lv_iload_n hx hb dX2_join_32 rfl (lv_at hl 0 rfl) ?_
          refine tf_goi (tf_V (n := 1) C hw hm.1 rfl [.int (nI h)] (metX2_isLooked hB hm (h := h) (by omega) hk14 hnd) (lw_V q1092 q1094 qs23 q45 q1095) rfl ⟨by decide, by decide, by decide +kernel⟩ ⟨rfl, rfl, Nat.le_of_ble_eq_true rfl, Nat.le_of_ble_eq_true rfl, (by first | exact Nat.le_of_ble_eq_true rfl | (show _ ≤ 0; omega)), (by first | exact Nat.le_of_ble_eq_true rfl | (show _ ≤ 0; omega))⟩ rfl hl rfl (Nat.le_of_ble_eq_true rfl) dX2_join_33) hw (fun r9 G9 H locs hp9 hw => ?_)
          obtain ⟨hre, hGe⟩ := hp9
          rw [pm_look3] at hre
          obtain rfl := hre.symm
          obtain rfl := hGe.symm
          refine lv_if_eq (tgt := 57) hx hb dX2_join_36 (by decide) (fun c36 => ?_) (fun c36 => ?_)
          · replace c36 := pt_b0 c36
            refine lv_iconst (v := 0) hx hb dX2_join_57 (by decide) ?_
            refine lv_istore_n (lv' := [(3, .int 0), (2, .int (nI h)), (0, .ref mm), (1, .int wo)]) hx hb dX2_join_58 rfl hl (by decide) rfl (fun ls hl => ?_)
            refine lv_aload_n hx hb dX2_join_59 rfl (lv_at hl 2 rfl) ?_
            refine gf_X2_58 C hw hm.1 (v := .ref (ad 23)) rfl dX2_join_60 ?_
            refine lv_iload_n hx hb dX2_join_63 rfl (lv_at hl 1 rfl) ?_
            refine lv_iload_n hx hb dX2_join_64 rfl (lv_at hl 0 rfl) ?_
            refine lv_if_eq (tgt := 73) hx hb dX2_join_65 (by decide) (fun c65 => ?_) (fun c65 => absurd c65 (not_not_intro rfl))
            refine lv_iconst (v := (-1)) hx hb dX2_join_73 (by decide) ?_
            refine mo_ast C hw hm 23 (by decide) (by decide) ((pm_mix (pm_g0 ar hT nd wo) (ar 23) h)) rfl h rfl (show h < 240 by omega) dX2_join_74 (fun G10 H locs hm hw => ?_)
            have hm := mo_eq (pm_ar3_23 (show _ = upd ((pm_mix (pm_g0 ar hT nd wo) (ar 23) h)) h ((-1)) from rfl)) hm
            have hm := mo_eq (show pm_ar3 ar _ _ _ = pm_ar3 ar (pm_mix (fun j => pm_rightL ar j nc) (ar 24) (h + 1)) (pm_mix (pm_g0 ar hT nd wo) (ar 23) (h + 1)) (ar 25) by rw [pm_mix1 _ _ _ rfl, pm_mix1 _ _ _ (by simp only [pm_g0, pm_ask, decide_eq_false c28, c36, Bool.false_and, Bool.and_false]; rfl)]) hm
            refine lv_iinc (v := nI (h + 1)) (lv' := [(2, .int (nI (h + 1))), (3, .int 0), (0, .ref mm), (1, .int wo)]) hx hb dX2_join_75 hl (k := 1) rfl (nI_1 _) (by decide) rfl (fun ls hl => ?_)
            refine lv_goto (tgt := 2) hx hb dX2_join_78 (by decide) ?_
            exact ih2 (h + 1) _ (by omega) (by omega) hm _ _ hw ls (lv_sub hl [0, 2, 3] rfl)
          · replace c36 := pt_b1 c36
            refine lv_aload_n hx hb dX2_join_39 rfl (lv_at hl 1 rfl) ?_
            refine lv_iload_n hx hb dX2_join_40 rfl (lv_at hl 0 rfl) ?_
            refine tf_goi (tf_V (n := 1) C hw hm.1 rfl [.int (nI h)] (metX2_amountOf hB hm (h := h) (by omega)) (lw_V q1116 q1118 qs28 q45 q1119) rfl ⟨by decide, by decide, by decide +kernel⟩ ⟨rfl, rfl, Nat.le_of_ble_eq_true rfl, Nat.le_of_ble_eq_true rfl, (by first | exact Nat.le_of_ble_eq_true rfl | (show _ ≤ 0; omega)), (by first | exact Nat.le_of_ble_eq_true rfl | (show _ ≤ 0; omega))⟩ rfl hl rfl (Nat.le_of_ble_eq_true rfl) dX2_join_41) hw (fun r11 G11 H locs hp11 hw => ?_)
            obtain ⟨hre, hGe⟩ := hp11
            have hre : r11 = pm_amt ar h := hre
            obtain rfl := hre.symm
            obtain rfl := hGe.symm
            refine lv_aload_n hx hb dX2_join_44 rfl (lv_at hl 1 rfl) ?_
            refine gf_X2_55 C hw hm.1 (v := .ref (ad 21)) rfl dX2_join_45 ?_
            refine lv_iconst (v := 3) hx hb dX2_join_48 (by decide) ?_
            refine mo_ald (v := ar 21 3) C hw hm 21 (by decide) (by decide) 3 rfl (show 3 < 4 by omega) rfl dX2_join_49 ?_
            refine lv_icmp_lt (tgt := 57) hx hb dX2_join_50 (by decide) (fun c50 => ?_) (fun c50 => ?_)
            · refine lv_iconst (v := 0) hx hb dX2_join_57 (by decide) ?_
              refine lv_istore_n (lv' := [(3, .int 0), (2, .int (nI h)), (0, .ref mm), (1, .int wo)]) hx hb dX2_join_58 rfl hl (by decide) rfl (fun ls hl => ?_)
              refine lv_aload_n hx hb dX2_join_59 rfl (lv_at hl 2 rfl) ?_
              refine gf_X2_58 C hw hm.1 (v := .ref (ad 23)) rfl dX2_join_60 ?_
              refine lv_iload_n hx hb dX2_join_63 rfl (lv_at hl 1 rfl) ?_
              refine lv_iload_n hx hb dX2_join_64 rfl (lv_at hl 0 rfl) ?_
              refine lv_if_eq (tgt := 73) hx hb dX2_join_65 (by decide) (fun c65 => ?_) (fun c65 => absurd c65 (not_not_intro rfl))
              refine lv_iconst (v := (-1)) hx hb dX2_join_73 (by decide) ?_
              refine mo_ast C hw hm 23 (by decide) (by decide) ((pm_mix (pm_g0 ar hT nd wo) (ar 23) h)) rfl h rfl (show h < 240 by omega) dX2_join_74 (fun G12 H locs hm hw => ?_)
              have hm := mo_eq (pm_ar3_23 (show _ = upd ((pm_mix (pm_g0 ar hT nd wo) (ar 23) h)) h ((-1)) from rfl)) hm
              have hm := mo_eq (show pm_ar3 ar _ _ _ = pm_ar3 ar (pm_mix (fun j => pm_rightL ar j nc) (ar 24) (h + 1)) (pm_mix (pm_g0 ar hT nd wo) (ar 23) (h + 1)) (ar 25) by rw [pm_mix1 _ _ _ rfl, pm_mix1 _ _ _ (by simp only [pm_g0, pm_ask, decide_eq_false c28, c36, decide_eq_true c50, Bool.not_true, Bool.and_false]; rfl)]) hm
              refine lv_iinc (v := nI (h + 1)) (lv' := [(2, .int (nI (h + 1))), (3, .int 0), (0, .ref mm), (1, .int wo)]) hx hb dX2_join_75 hl (k := 1) rfl (nI_1 _) (by decide) rfl (fun ls hl => ?_)
              refine lv_goto (tgt := 2) hx hb dX2_join_78 (by decide) ?_
              exact ih2 (h + 1) _ (by omega) (by omega) hm _ _ hw ls (lv_sub hl [0, 2, 3] rfl)
            · refine lv_iconst (v := 1) hx hb dX2_join_53 (by decide) ?_
              refine lv_goto (tgt := 58) hx hb dX2_join_54 (by decide) ?_
              refine lv_istore_n (lv' := [(3, .int 1), (2, .int (nI h)), (0, .ref mm), (1, .int wo)]) hx hb dX2_join_58 rfl hl (by decide) rfl (fun ls hl => ?_)
              refine lv_aload_n hx hb dX2_join_59 rfl (lv_at hl 2 rfl) ?_
              refine gf_X2_58 C hw hm.1 (v := .ref (ad 23)) rfl dX2_join_60 ?_
              refine lv_iload_n hx hb dX2_join_63 rfl (lv_at hl 1 rfl) ?_
              refine lv_iload_n hx hb dX2_join_64 rfl (lv_at hl 0 rfl) ?_
              refine lv_if_eq (tgt := 73) hx hb dX2_join_65 (by decide) (fun c65 => absurd c65 (by decide)) (fun c65 => ?_)
              refine lv_bipush (v := (-9)) hx hb dX2_join_68 (by decide) ?_
              refine lv_goto (tgt := 74) hx hb dX2_join_70 (by decide) ?_
              refine mo_ast C hw hm 23 (by decide) (by decide) ((pm_mix (pm_g0 ar hT nd wo) (ar 23) h)) rfl h rfl (show h < 240 by omega) dX2_join_74 (fun G13 H locs hm hw => ?_)
              have hm := mo_eq (pm_ar3_23 (show _ = upd ((pm_mix (pm_g0 ar hT nd wo) (ar 23) h)) h ((-9)) from rfl)) hm
              have hm := mo_eq (show pm_ar3 ar _ _ _ = pm_ar3 ar (pm_mix (fun j => pm_rightL ar j nc) (ar 24) (h + 1)) (pm_mix (pm_g0 ar hT nd wo) (ar 23) (h + 1)) (ar 25) by rw [pm_mix1 _ _ _ rfl, pm_mix1 _ _ _ (by simp only [pm_g0, pm_ask, decide_eq_false c28, c36, decide_eq_false c50, Bool.not_false, Bool.and_self]; rfl)]) hm
              refine lv_iinc (v := nI (h + 1)) (lv' := [(2, .int (nI (h + 1))), (3, .int 1), (0, .ref mm), (1, .int wo)]) hx hb dX2_join_75 hl (k := 1) rfl (nI_1 _) (by decide) rfl (fun ls hl => ?_)
              refine lv_goto (tgt := 2) hx hb dX2_join_78 (by decide) ?_
              exact ih2 (h + 1) _ (by omega) (by omega) hm _ _ hw ls (lv_sub hl [0, 2, 3] rfl)
  exact b2 (nh + 1) 0 _ (by omega) (by omega) hm _ _ hw ls hl
