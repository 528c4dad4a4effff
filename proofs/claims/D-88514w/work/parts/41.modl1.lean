/-! MODULE TankFieldModel, part 1: leaves -/
set_option maxRecDepth 100000

set_option maxHeartbeats 4000000 in
set_option maxRecDepth 100000 in
theorem metX2_fails {l : Launch} {S0 : State} {D : va_G} {dA : Nat → ClassId} (hB : tf_B S0 D dA) {sz : Nat} {G : tf_Pic} {mm : Nat} {ad : Nat → Nat} {iv : Nat → Int32} {ar : Nat → Nat → Int32} {fr : Nat → Int64} (hm : mo_W dA mm ad iv ar fr G) (v : Int32) : Met l yX2_fails (ws_ yX2_fails cX2_fails 2 (some .int)) (tf_rm 1 0 0) (tf_Pc S0 D sz G [.ref mm, .int v]) (tf_Qi S0 D sz G (fun r G1 => r = -10 - v ∧ mo_W dA mm ad (va_up iv 0 v) ar fr G1)) 0 0 (tf_A G sz) := by
  refine Met.ofW (cc := cX2_fails) (maxL := 2) (ret := (some .int)) (by decide) rfl ?_
  intro p e s m args below meth c s₁ B hml hv
  obtain ⟨C, hw, hr, hlk, hin, hargs⟩ := tf_enter hB B hml hv
  subst hargs
  have C : tf_C p s m ([.ref mm, .int v] : List Value).toArray c cX2_fails 2 RX2 S0 D dA := C
  have hx := C.hx
  have hb := C.hb
  change W p l e (tf_rm 1 0 0) s m ([.ref mm, .int v] : List Value).toArray below meth c s.heap [] 0 0 (MQ below (tf_Qi S0 D sz G (fun r G1 => r = -10 - v ∧ mo_W dA mm ad (va_up iv 0 v) ar fr G1)) ([.ref mm, .int v] : List Value).toArray s 0 0 (tf_A G sz)) (entryFrame m ([.ref mm, .int v] : List Value).toArray 2)
  refine tf_start [.ref mm, .int v] (Nat.le_of_ble_eq_true rfl) (fun ls hl => ?_)
  have hl : lv_has ls 2 [(0, .ref mm), (1, .int v)] := hl
  refine lv_aload_n hx hb dX2_fails_0 rfl (lv_at hl 0 rfl) ?_
  refine lv_iload_n hx hb dX2_fails_1 rfl (lv_at hl 1 rfl) ?_
  refine pf_X2_98 C hw hm.1 v (Nat.le_of_ble_eq_true rfl) dX2_fails_2 (mo_put hm 0 (by decide) (fun G1 H locs hm hw => ?_))
  refine lv_bipush (v := (-10)) hx hb dX2_fails_5 (by decide) ?_
  refine lv_iload_n hx hb dX2_fails_7 rfl (lv_at hl 1 rfl) ?_
  refine lv_isub hx hb dX2_fails_8 ?_
  exact tf_reti C hw hr hlk dX2_fails_9 (by first | exact Nat.le_of_ble_eq_true rfl | omega) (by first | exact Nat.le_of_ble_eq_true rfl | omega) (by exact ⟨rfl, hm⟩)

set_option maxHeartbeats 4000000 in
set_option maxRecDepth 100000 in
theorem metX2_lost {l : Launch} {S0 : State} {D : va_G} {dA : Nat → ClassId} (hB : tf_B S0 D dA) {sz : Nat} {G : tf_Pic} {mm : Nat} {ad : Nat → Nat} {iv : Nat → Int32} {ar : Nat → Nat → Int32} {fr : Nat → Int64} (hm : mo_W dA mm ad iv ar fr G) (v : Int32) : Met l yX2_lost (ws_ yX2_lost cX2_lost 2 (some .long)) (tf_rm 1 0 0) (tf_Pc S0 D sz G [.ref mm, .int v]) (tf_Ql S0 D sz G (fun r G1 => r = -9223372036854775808 ∧ mo_W dA mm ad (va_up iv 0 v) ar fr G1)) 0 0 (tf_A G sz) := by
  refine Met.ofW (cc := cX2_lost) (maxL := 2) (ret := (some .long)) (by decide) rfl ?_
  intro p e s m args below meth c s₁ B hml hv
  obtain ⟨C, hw, hr, hlk, hin, hargs⟩ := tf_enter hB B hml hv
  subst hargs
  have C : tf_C p s m ([.ref mm, .int v] : List Value).toArray c cX2_lost 2 RX2 S0 D dA := C
  have hx := C.hx
  have hb := C.hb
  change W p l e (tf_rm 1 0 0) s m ([.ref mm, .int v] : List Value).toArray below meth c s.heap [] 0 0 (MQ below (tf_Ql S0 D sz G (fun r G1 => r = -9223372036854775808 ∧ mo_W dA mm ad (va_up iv 0 v) ar fr G1)) ([.ref mm, .int v] : List Value).toArray s 0 0 (tf_A G sz)) (entryFrame m ([.ref mm, .int v] : List Value).toArray 2)
  refine tf_start [.ref mm, .int v] (Nat.le_of_ble_eq_true rfl) (fun ls hl => ?_)
  have hl : lv_has ls 2 [(0, .ref mm), (1, .int v)] := hl
  refine lv_aload_n hx hb dX2_lost_0 rfl (lv_at hl 0 rfl) ?_
  refine lv_iload_n hx hb dX2_lost_1 rfl (lv_at hl 1 rfl) ?_
  refine pf_X2_98 C hw hm.1 v (Nat.le_of_ble_eq_true rfl) dX2_lost_2 (mo_put hm 0 (by decide) (fun G1 H locs hm hw => ?_))
  refine lv_ldc2 (v := (-9223372036854775808)) hx hb C.hown (C.hts _ q1124) dX2_lost_5 ?_
  exact tf_retl C hw hr hlk dX2_lost_8 (by first | exact Nat.le_of_ble_eq_true rfl | omega) (by first | exact Nat.le_of_ble_eq_true rfl | omega) (by exact ⟨rfl, hm⟩)

set_option maxHeartbeats 4000000 in
set_option maxRecDepth 100000 in
theorem metX2_within {l : Launch} {S0 : State} {D : va_G} {dA : Nat → ClassId} (hB : tf_B S0 D dA) {sz : Nat} {G : tf_Pic} (v lo hi : Int32) : Met l yX2_within (ws_ yX2_within cX2_within 3 (some .boolean)) (tf_rm 1 0 0) (tf_Pc S0 D sz G [.int v, .int lo, .int hi]) (tf_Qi S0 D sz G (fun r G1 => r = pt_b (pm_in v lo hi) ∧ G1 = G)) 0 0 (tf_A G sz) := by
  refine Met.ofW (cc := cX2_within) (maxL := 3) (ret := (some .boolean)) (by decide) rfl ?_
  intro p e s m args below meth c s₁ B hml hv
  obtain ⟨C, hw, hr, hlk, hin, hargs⟩ := tf_enter hB B hml hv
  subst hargs
  have C : tf_C p s m ([.int v, .int lo, .int hi] : List Value).toArray c cX2_within 3 RX2 S0 D dA := C
  have hx := C.hx
  have hb := C.hb
  change W p l e (tf_rm 1 0 0) s m ([.int v, .int lo, .int hi] : List Value).toArray below meth c s.heap [] 0 0 (MQ below (tf_Qi S0 D sz G (fun r G1 => r = pt_b (pm_in v lo hi) ∧ G1 = G)) ([.int v, .int lo, .int hi] : List Value).toArray s 0 0 (tf_A G sz)) (entryFrame m ([.int v, .int lo, .int hi] : List Value).toArray 3)
  refine tf_start [.int v, .int lo, .int hi] (Nat.le_of_ble_eq_true rfl) (fun ls hl => ?_)
  have hl : lv_has ls 3 [(0, .int v), (1, .int lo), (2, .int hi)] := hl
  refine lv_iload_n hx hb dX2_within_0 rfl (lv_at hl 0 rfl) ?_
  refine lv_iload_n hx hb dX2_within_1 rfl (lv_at hl 1 rfl) ?_
  refine lv_icmp_lt (tgt := 14) hx hb dX2_within_2 (by decide) (fun c2 => ?_) (fun c2 => ?_)
  · refine lv_iconst (v := 0) hx hb dX2_within_14 (by decide) ?_
    exact tf_retz C hw hr hlk dX2_within_15 (by first | exact Nat.le_of_ble_eq_true rfl | omega) (by first | exact Nat.le_of_ble_eq_true rfl | omega) (Or.inl rfl) (by rw [pm_in_lo c2]; exact ⟨rfl, rfl⟩)
  · refine lv_iload_n hx hb dX2_within_5 rfl (lv_at hl 0 rfl) ?_
    refine lv_iload_n hx hb dX2_within_6 rfl (lv_at hl 2 rfl) ?_
    refine lv_icmp_gt (tgt := 14) hx hb dX2_within_7 (by decide) (fun c7 => ?_) (fun c7 => ?_)
    · refine lv_iconst (v := 0) hx hb dX2_within_14 (by decide) ?_
      exact tf_retz C hw hr hlk dX2_within_15 (by first | exact Nat.le_of_ble_eq_true rfl | omega) (by first | exact Nat.le_of_ble_eq_true rfl | omega) (Or.inl rfl) (by rw [pm_in_hi c7]; exact ⟨rfl, rfl⟩)
    · refine lv_iconst (v := 1) hx hb dX2_within_10 (by decide) ?_
      refine lv_goto (tgt := 15) hx hb dX2_within_11 (by decide) ?_
      exact tf_retz C hw hr hlk dX2_within_15 (by first | exact Nat.le_of_ble_eq_true rfl | omega) (by first | exact Nat.le_of_ble_eq_true rfl | omega) (Or.inr rfl) (by rw [pm_in_t c2 c7]; exact ⟨rfl, rfl⟩)

set_option maxHeartbeats 4000000 in
set_option maxRecDepth 100000 in
theorem metX0_in {l : Launch} {S0 : State} {D : va_G} {dA : Nat → ClassId} (hB : tf_B S0 D dA) {sz : Nat} {G : tf_Pic} (v lo hi : Int32) : Met l yX0_in (ws_ yX0_in cX0_in 3 (some .boolean)) (tf_rm 1 0 0) (tf_Pc S0 D sz G [.int v, .int lo, .int hi]) (tf_Qi S0 D sz G (fun r G1 => r = pt_b (pm_in v lo hi) ∧ G1 = G)) 0 0 (tf_A G sz) := by
  refine Met.ofW (cc := cX0_in) (maxL := 3) (ret := (some .boolean)) (by decide) rfl ?_
  intro p e s m args below meth c s₁ B hml hv
  obtain ⟨C, hw, hr, hlk, hin, hargs⟩ := tf_enter hB B hml hv
  subst hargs
  have C : tf_C p s m ([.int v, .int lo, .int hi] : List Value).toArray c cX0_in 3 RX0 S0 D dA := C
  have hx := C.hx
  have hb := C.hb
  change W p l e (tf_rm 1 0 0) s m ([.int v, .int lo, .int hi] : List Value).toArray below meth c s.heap [] 0 0 (MQ below (tf_Qi S0 D sz G (fun r G1 => r = pt_b (pm_in v lo hi) ∧ G1 = G)) ([.int v, .int lo, .int hi] : List Value).toArray s 0 0 (tf_A G sz)) (entryFrame m ([.int v, .int lo, .int hi] : List Value).toArray 3)
  refine tf_start [.int v, .int lo, .int hi] (Nat.le_of_ble_eq_true rfl) (fun ls hl => ?_)
  have hl : lv_has ls 3 [(0, .int v), (1, .int lo), (2, .int hi)] := hl
  refine lv_iload_n hx hb dX0_in_0 rfl (lv_at hl 0 rfl) ?_
  refine lv_iload_n hx hb dX0_in_1 rfl (lv_at hl 1 rfl) ?_
  refine lv_icmp_lt (tgt := 14) hx hb dX0_in_2 (by decide) (fun c2 => ?_) (fun c2 => ?_)
  · refine lv_iconst (v := 0) hx hb dX0_in_14 (by decide) ?_
    exact tf_retz C hw hr hlk dX0_in_15 (by first | exact Nat.le_of_ble_eq_true rfl | omega) (by first | exact Nat.le_of_ble_eq_true rfl | omega) (Or.inl rfl) (by rw [pm_in_lo c2]; exact ⟨rfl, rfl⟩)
  · refine lv_iload_n hx hb dX0_in_5 rfl (lv_at hl 0 rfl) ?_
    refine lv_iload_n hx hb dX0_in_6 rfl (lv_at hl 2 rfl) ?_
    refine lv_icmp_gt (tgt := 14) hx hb dX0_in_7 (by decide) (fun c7 => ?_) (fun c7 => ?_)
    · refine lv_iconst (v := 0) hx hb dX0_in_14 (by decide) ?_
      exact tf_retz C hw hr hlk dX0_in_15 (by first | exact Nat.le_of_ble_eq_true rfl | omega) (by first | exact Nat.le_of_ble_eq_true rfl | omega) (Or.inl rfl) (by rw [pm_in_hi c7]; exact ⟨rfl, rfl⟩)
    · refine lv_iconst (v := 1) hx hb dX0_in_10 (by decide) ?_
      refine lv_goto (tgt := 15) hx hb dX0_in_11 (by decide) ?_
      exact tf_retz C hw hr hlk dX0_in_15 (by first | exact Nat.le_of_ble_eq_true rfl | omega) (by first | exact Nat.le_of_ble_eq_true rfl | omega) (Or.inr rfl) (by rw [pm_in_t c2 c7]; exact ⟨rfl, rfl⟩)

set_option maxHeartbeats 4000000 in
set_option maxRecDepth 100000 in
theorem metX2_isTank {l : Launch} {S0 : State} {D : va_G} {dA : Nat → ClassId} (hB : tf_B S0 D dA) {sz : Nat} {G : tf_Pic} {mm : Nat} {ad : Nat → Nat} {iv : Nat → Int32} {ar : Nat → Nat → Int32} {fr : Nat → Int64} (hm : mo_W dA mm ad iv ar fr G) (t : Int32) : Met l yX2_isTank (ws_ yX2_isTank cX2_isTank 2 (some .boolean)) (tf_rm 1 0 0) (tf_Pc S0 D sz G [.ref mm, .int t]) (tf_Qi S0 D sz G (fun r G1 => r = pt_b (pm_of t (iv 2)) ∧ G1 = G)) 0 0 (tf_A G sz) := by
  refine Met.ofW (cc := cX2_isTank) (maxL := 2) (ret := (some .boolean)) (by decide) rfl ?_
  intro p e s m args below meth c s₁ B hml hv
  obtain ⟨C, hw, hr, hlk, hin, hargs⟩ := tf_enter hB B hml hv
  subst hargs
  have C : tf_C p s m ([.ref mm, .int t] : List Value).toArray c cX2_isTank 2 RX2 S0 D dA := C
  have hx := C.hx
  have hb := C.hb
  change W p l e (tf_rm 1 0 0) s m ([.ref mm, .int t] : List Value).toArray below meth c s.heap [] 0 0 (MQ below (tf_Qi S0 D sz G (fun r G1 => r = pt_b (pm_of t (iv 2)) ∧ G1 = G)) ([.ref mm, .int t] : List Value).toArray s 0 0 (tf_A G sz)) (entryFrame m ([.ref mm, .int t] : List Value).toArray 2)
  refine tf_start [.ref mm, .int t] (Nat.le_of_ble_eq_true rfl) (fun ls hl => ?_)
  have hl : lv_has ls 2 [(0, .ref mm), (1, .int t)] := hl
  refine lv_iload_n hx hb dX2_isTank_0 rfl (lv_at hl 1 rfl) ?_
  refine lv_if_lt (tgt := 16) hx hb dX2_isTank_1 (by decide) (fun c1 => ?_) (fun c1 => ?_)
  · refine lv_iconst (v := 0) hx hb dX2_isTank_16 (by decide) ?_
    exact tf_retz C hw hr hlk dX2_isTank_17 (by first | exact Nat.le_of_ble_eq_true rfl | omega) (by first | exact Nat.le_of_ble_eq_true rfl | omega) (Or.inl rfl) (by rw [pm_of_lo c1]; exact ⟨rfl, rfl⟩)
  · refine lv_iload_n hx hb dX2_isTank_4 rfl (lv_at hl 1 rfl) ?_
    refine lv_aload_n hx hb dX2_isTank_5 rfl (lv_at hl 0 rfl) ?_
    refine gf_X2_104 C hw hm.1 (v := .int (iv 2)) rfl dX2_isTank_6 ?_
    refine lv_icmp_ge (tgt := 16) hx hb dX2_isTank_9 (by decide) (fun c9 => ?_) (fun c9 => ?_)
    · refine lv_iconst (v := 0) hx hb dX2_isTank_16 (by decide) ?_
      exact tf_retz C hw hr hlk dX2_isTank_17 (by first | exact Nat.le_of_ble_eq_true rfl | omega) (by first | exact Nat.le_of_ble_eq_true rfl | omega) (Or.inl rfl) (by rw [pm_of_hi c9]; exact ⟨rfl, rfl⟩)
    · refine lv_iconst (v := 1) hx hb dX2_isTank_12 (by decide) ?_
      refine lv_goto (tgt := 17) hx hb dX2_isTank_13 (by decide) ?_
      exact tf_retz C hw hr hlk dX2_isTank_17 (by first | exact Nat.le_of_ble_eq_true rfl | omega) (by first | exact Nat.le_of_ble_eq_true rfl | omega) (Or.inr rfl) (by rw [pm_of_t c1 c9]; exact ⟨rfl, rfl⟩)

set_option maxHeartbeats 4000000 in
set_option maxRecDepth 100000 in
theorem metX2_isHit {l : Launch} {S0 : State} {D : va_G} {dA : Nat → ClassId} (hB : tf_B S0 D dA) {sz : Nat} {G : tf_Pic} {mm : Nat} {ad : Nat → Nat} {iv : Nat → Int32} {ar : Nat → Nat → Int32} {fr : Nat → Int64} (hm : mo_W dA mm ad iv ar fr G) (t : Int32) : Met l yX2_isHit (ws_ yX2_isHit cX2_isHit 2 (some .boolean)) (tf_rm 1 0 0) (tf_Pc S0 D sz G [.ref mm, .int t]) (tf_Qi S0 D sz G (fun r G1 => r = pt_b (pm_of t (iv 5)) ∧ G1 = G)) 0 0 (tf_A G sz) := by
  refine Met.ofW (cc := cX2_isHit) (maxL := 2) (ret := (some .boolean)) (by decide) rfl ?_
  intro p e s m args below meth c s₁ B hml hv
  obtain ⟨C, hw, hr, hlk, hin, hargs⟩ := tf_enter hB B hml hv
  subst hargs
  have C : tf_C p s m ([.ref mm, .int t] : List Value).toArray c cX2_isHit 2 RX2 S0 D dA := C
  have hx := C.hx
  have hb := C.hb
  change W p l e (tf_rm 1 0 0) s m ([.ref mm, .int t] : List Value).toArray below meth c s.heap [] 0 0 (MQ below (tf_Qi S0 D sz G (fun r G1 => r = pt_b (pm_of t (iv 5)) ∧ G1 = G)) ([.ref mm, .int t] : List Value).toArray s 0 0 (tf_A G sz)) (entryFrame m ([.ref mm, .int t] : List Value).toArray 2)
  refine tf_start [.ref mm, .int t] (Nat.le_of_ble_eq_true rfl) (fun ls hl => ?_)
  have hl : lv_has ls 2 [(0, .ref mm), (1, .int t)] := hl
  refine lv_iload_n hx hb dX2_isHit_0 rfl (lv_at hl 1 rfl) ?_
  refine lv_if_lt (tgt := 16) hx hb dX2_isHit_1 (by decide) (fun c1 => ?_) (fun c1 => ?_)
  · refine lv_iconst (v := 0) hx hb dX2_isHit_16 (by decide) ?_
    exact tf_retz C hw hr hlk dX2_isHit_17 (by first | exact Nat.le_of_ble_eq_true rfl | omega) (by first | exact Nat.le_of_ble_eq_true rfl | omega) (Or.inl rfl) (by rw [pm_of_lo c1]; exact ⟨rfl, rfl⟩)
  · refine lv_iload_n hx hb dX2_isHit_4 rfl (lv_at hl 1 rfl) ?_
    refine lv_aload_n hx hb dX2_isHit_5 rfl (lv_at hl 0 rfl) ?_
    refine gf_X2_107 C hw hm.1 (v := .int (iv 5)) rfl dX2_isHit_6 ?_
    refine lv_icmp_ge (tgt := 16) hx hb dX2_isHit_9 (by decide) (fun c9 => ?_) (fun c9 => ?_)
    · refine lv_iconst (v := 0) hx hb dX2_isHit_16 (by decide) ?_
      exact tf_retz C hw hr hlk dX2_isHit_17 (by first | exact Nat.le_of_ble_eq_true rfl | omega) (by first | exact Nat.le_of_ble_eq_true rfl | omega) (Or.inl rfl) (by rw [pm_of_hi c9]; exact ⟨rfl, rfl⟩)
    · refine lv_iconst (v := 1) hx hb dX2_isHit_12 (by decide) ?_
      refine lv_goto (tgt := 17) hx hb dX2_isHit_13 (by decide) ?_
      exact tf_retz C hw hr hlk dX2_isHit_17 (by first | exact Nat.le_of_ble_eq_true rfl | omega) (by first | exact Nat.le_of_ble_eq_true rfl | omega) (Or.inr rfl) (by rw [pm_of_t c1 c9]; exact ⟨rfl, rfl⟩)

/-- a new tank -/
def pm_tank (iv : Nat → Int32) (ar : Nat → Nat → Int32) (n : Nat) (x y : Int32) : Int32 × (Nat → Int32) × (Nat → Nat → Int32) := if pm_in x (-100) 100 && pm_in y (-100) 100 then (if n = 30 then (-4, iv, ar) else (nI n, va_up iv 2 (nI (n + 1)), va_up (va_up ar 3 (upd (ar 3) n x)) 4 (upd (ar 4) n y))) else (-2, iv, ar)

set_option maxHeartbeats 4000000 in
set_option maxRecDepth 100000 in
theorem metX2_tank {l : Launch} {S0 : State} {D : va_G} {dA : Nat → ClassId} (hB : tf_B S0 D dA) {sz : Nat} {G : tf_Pic} {mm : Nat} {ad : Nat → Nat} {iv : Nat → Int32} {ar : Nat → Nat → Int32} {fr : Nat → Int64} (hm : mo_W dA mm ad iv ar fr G) {n : Nat} (h2 : iv 2 = nI n) (hn : n ≤ 30) (x y : Int32) : Met l yX2_tank (ws_ yX2_tank cX2_tank 3 (some .int)) (tf_rm 2 0 0) (tf_Pc S0 D sz G [.ref mm, .int x, .int y]) (tf_Qi S0 D sz G (fun r G1 => ∃ iv1 ar1, (r, iv1, ar1) = pm_tank iv ar n x y ∧ mo_W dA mm ad iv1 ar1 fr G1)) 0 0 (tf_A G sz) := by
  refine Met.ofW (cc := cX2_tank) (maxL := 3) (ret := (some .int)) (by decide) rfl ?_
  intro p e s m args below meth c s₁ B hml hv
  obtain ⟨C, hw, hr, hlk, hin, hargs⟩ := tf_enter hB B hml hv
  subst hargs
  have C : tf_C p s m ([.ref mm, .int x, .int y] : List Value).toArray c cX2_tank 3 RX2 S0 D dA := C
  have hx := C.hx
  have hb := C.hb
  change W p l e (tf_rm 2 0 0) s m ([.ref mm, .int x, .int y] : List Value).toArray below meth c s.heap [] 0 0 (MQ below (tf_Qi S0 D sz G (fun r G1 => ∃ iv1 ar1, (r, iv1, ar1) = pm_tank iv ar n x y ∧ mo_W dA mm ad iv1 ar1 fr G1)) ([.ref mm, .int x, .int y] : List Value).toArray s 0 0 (tf_A G sz)) (entryFrame m ([.ref mm, .int x, .int y] : List Value).toArray 3)
  refine tf_start [.ref mm, .int x, .int y] (Nat.le_of_ble_eq_true rfl) (fun ls hl => ?_)
  have hl : lv_has ls 3 [(0, .ref mm), (1, .int x), (2, .int y)] := hl
  refine lv_iload_n hx hb dX2_tank_0 rfl (lv_at hl 1 rfl) ?_
  refine lv_bipush (v := (-100)) hx hb dX2_tank_1 (by decide) ?_
  refine lv_bipush (v := 100) hx hb dX2_tank_3 (by decide) ?_
  refine tf_goi (tf_S (n := 3) C hw [.int x, .int ((-100)), .int 100] (metX2_within hB x ((-100)) 100) (lw_S q1052 q1053 q45 q1054) ⟨by decide, by decide, by decide +kernel⟩ ⟨rfl, rfl, Nat.le_of_ble_eq_true rfl, Nat.le_of_ble_eq_true rfl, (by first | exact Nat.le_of_ble_eq_true rfl | (show _ ≤ 0; omega)), (by first | exact Nat.le_of_ble_eq_true rfl | (show _ ≤ 0; omega))⟩ rfl hl rfl (Nat.le_of_ble_eq_true rfl) dX2_tank_5) hw (fun r1 G1 H locs hp1 hw => ?_)
  obtain ⟨hre, hGe⟩ := hp1
  have hre : r1 = pt_b (pm_in x ((-100)) 100) := hre
  obtain rfl := hre.symm
  obtain rfl := hGe.symm
  refine lv_if_eq (tgt := 22) hx hb dX2_tank_8 (by decide) (fun c8 => ?_) (fun c8 => ?_)
  · replace c8 := pt_b0 c8
    refine lv_bipush (v := (-2)) hx hb dX2_tank_22 (by decide) ?_
    exact tf_reti C hw hr hlk dX2_tank_24 (by first | exact Nat.le_of_ble_eq_true rfl | omega) (by first | exact Nat.le_of_ble_eq_true rfl | omega) (by refine ⟨_, _, ?_, hm⟩; simp [pm_tank, c8])
  · replace c8 := pt_b1 c8
    refine lv_iload_n hx hb dX2_tank_11 rfl (lv_at hl 2 rfl) ?_
    refine lv_bipush (v := (-100)) hx hb dX2_tank_12 (by decide) ?_
    refine lv_bipush (v := 100) hx hb dX2_tank_14 (by decide) ?_
    refine tf_goi (tf_S (n := 3) C hw [.int y, .int ((-100)), .int 100] (metX2_within hB y ((-100)) 100) (lw_S q1052 q1053 q45 q1054) ⟨by decide, by decide, by decide +kernel⟩ ⟨rfl, rfl, Nat.le_of_ble_eq_true rfl, Nat.le_of_ble_eq_true rfl, (by first | exact Nat.le_of_ble_eq_true rfl | (show _ ≤ 0; omega)), (by first | exact Nat.le_of_ble_eq_true rfl | (show _ ≤ 0; omega))⟩ rfl hl rfl (Nat.le_of_ble_eq_true rfl) dX2_tank_16) hw (fun r2 G2 H locs hp2 hw => ?_)
    obtain ⟨hre, hGe⟩ := hp2
    have hre : r2 = pt_b (pm_in y ((-100)) 100) := hre
    obtain rfl := hre.symm
    obtain rfl := hGe.symm
    refine lv_if_ne (tgt := 25) hx hb dX2_tank_19 (by decide) (fun c19 => ?_) (fun c19 => ?_)
    · replace c19 := pt_b1 c19
      refine lv_aload_n hx hb dX2_tank_25 rfl (lv_at hl 0 rfl) ?_
      refine gf_X2_104 C hw hm.1 (v := .int (nI n)) (by rw [← h2]; rfl) dX2_tank_26 ?_
      refine lv_bipush (v := 30) hx hb dX2_tank_29 (by decide) ?_
      refine tf_icmp_neN hx hb n 30 rfl rfl (tgt := 37) dX2_tank_31 (by decide) (by omega) (by omega) (fun c31 => ?_) (fun c31 => ?_)
      · refine lv_aload_n hx hb dX2_tank_37 rfl (lv_at hl 0 rfl) ?_
        refine gf_X2_7 C hw hm.1 (v := .ref (ad 3)) rfl dX2_tank_38 ?_
        refine lv_aload_n hx hb dX2_tank_41 rfl (lv_at hl 0 rfl) ?_
        refine gf_X2_104 C hw hm.1 (v := .int (nI n)) (by rw [← h2]; rfl) dX2_tank_42 ?_
        refine lv_iload_n hx hb dX2_tank_45 rfl (lv_at hl 1 rfl) ?_
        refine mo_ast C hw hm 3 (by decide) (by decide) (ar 3) rfl n rfl (show n < 30 by omega) dX2_tank_46 (fun G3 H locs hm hw => ?_)
        refine lv_aload_n hx hb dX2_tank_47 rfl (lv_at hl 0 rfl) ?_
        refine gf_X2_13 C hw hm.1 (v := .ref (ad 4)) rfl dX2_tank_48 ?_
        refine lv_aload_n hx hb dX2_tank_51 rfl (lv_at hl 0 rfl) ?_
        refine gf_X2_104 C hw hm.1 (v := .int (nI n)) (by rw [← h2]; rfl) dX2_tank_52 ?_
        refine lv_iload_n hx hb dX2_tank_55 rfl (lv_at hl 2 rfl) ?_
        refine mo_ast C hw hm 4 (by decide) (by decide) (ar 4) rfl n rfl (show n < 30 by omega) dX2_tank_56 (fun G4 H locs hm hw => ?_)
        refine lv_aload_n hx hb dX2_tank_57 rfl (lv_at hl 0 rfl) ?_
        refine lv_dup hx hb dX2_tank_58 rfl ?_
        refine gf_X2_104 C hw hm.1 (v := .int (nI n)) (by rw [← h2]; rfl) dX2_tank_59 ?_
        refine lv_iconst (v := 1) hx hb dX2_tank_62 (by decide) ?_
        refine tf_iaddN hx hb n 1 rfl rfl dX2_tank_63 ?_
        refine pf_X2_104 C hw hm.1 (nI (n + 1)) (Nat.le_of_ble_eq_true rfl) dX2_tank_64 (mo_put hm 2 (by decide) (fun G5 H locs hm hw => ?_))
        refine lv_aload_n hx hb dX2_tank_67 rfl (lv_at hl 0 rfl) ?_
        refine gf_X2_104 C hw hm.1 (v := .int (nI (n + 1))) rfl dX2_tank_68 ?_
        refine lv_iconst (v := 1) hx hb dX2_tank_71 (by decide) ?_
        refine tf_isubN hx hb (n + 1) 1 rfl rfl (by omega) dX2_tank_72 ?_
        exact tf_reti C hw hr hlk dX2_tank_73 (by first | exact Nat.le_of_ble_eq_true rfl | omega) (by first | exact Nat.le_of_ble_eq_true rfl | omega) (by refine ⟨_, _, ?_, hm⟩; simp [pm_tank, c8, c19, c31])
      · refine lv_bipush (v := (-4)) hx hb dX2_tank_34 (by decide) ?_
        exact tf_reti C hw hr hlk dX2_tank_36 (by first | exact Nat.le_of_ble_eq_true rfl | omega) (by first | exact Nat.le_of_ble_eq_true rfl | omega) (by refine ⟨_, _, ?_, hm⟩; simp [pm_tank, c8, c19, c31])
    · replace c19 := pt_b0 c19
      refine lv_bipush (v := (-2)) hx hb dX2_tank_22 (by decide) ?_
      exact tf_reti C hw hr hlk dX2_tank_24 (by first | exact Nat.le_of_ble_eq_true rfl | omega) (by first | exact Nat.le_of_ble_eq_true rfl | omega) (by refine ⟨_, _, ?_, hm⟩; simp [pm_tank, c8, c19])

/-- may a hit be so: 0, or why not -/
def pm_against (nT t time low high : Int32) : Int32 := if pm_of t nT then (if pm_in time 0 20000 && pm_in low 0 255 && pm_in high (-1) 255 && (decide (low = 255) || decide (high = -1)) then 0 else -2) else -1

set_option maxHeartbeats 4000000 in
set_option maxRecDepth 100000 in
theorem metX2_against {l : Launch} {S0 : State} {D : va_G} {dA : Nat → ClassId} (hB : tf_B S0 D dA) {sz : Nat} {G : tf_Pic} {mm : Nat} {ad : Nat → Nat} {iv : Nat → Int32} {ar : Nat → Nat → Int32} {fr : Nat → Int64} (hm : mo_W dA mm ad iv ar fr G) (t time low high : Int32) : Met l yX2_against (ws_ yX2_against cX2_against 6 (some .int)) (tf_rm 2 0 0) (tf_Pc S0 D sz G [.ref mm, .int t, .int time, .int low, .int high]) (tf_Qi S0 D sz G (fun r G1 => r = pm_against (iv 2) t time low high ∧ G1 = G)) 0 0 (tf_A G sz) := by
  refine Met.ofW (cc := cX2_against) (maxL := 6) (ret := (some .int)) (by decide) rfl ?_
  intro p e s m args below meth c s₁ B hml hv
  obtain ⟨C, hw, hr, hlk, hin, hargs⟩ := tf_enter hB B hml hv
  subst hargs
  have C : tf_C p s m ([.ref mm, .int t, .int time, .int low, .int high] : List Value).toArray c cX2_against 6 RX2 S0 D dA := C
  have hx := C.hx
  have hb := C.hb
  change W p l e (tf_rm 2 0 0) s m ([.ref mm, .int t, .int time, .int low, .int high] : List Value).toArray below meth c s.heap [] 0 0 (MQ below (tf_Qi S0 D sz G (fun r G1 => r = pm_against (iv 2) t time low high ∧ G1 = G)) ([.ref mm, .int t, .int time, .int low, .int high] : List Value).toArray s 0 0 (tf_A G sz)) (entryFrame m ([.ref mm, .int t, .int time, .int low, .int high] : List Value).toArray 6)
  refine tf_start [.ref mm, .int t, .int time, .int low, .int high] (Nat.le_of_ble_eq_true rfl) (fun ls hl => ?_)
  have hl : lv_has ls 6 [(0, .ref mm), (1, .int t), (2, .int time), (3, .int low), (4, .int high)] := hl
  refine lv_aload_n hx hb dX2_against_0 rfl (lv_at hl 0 rfl) ?_
  refine lv_iload_n hx hb dX2_against_1 rfl (lv_at hl 1 rfl) ?_
  refine tf_goi (tf_V (n := 1) C hw hm.1 rfl [.int t] (metX2_isTank hB hm t) (lw_V q1063 q1065 qs20 q45 q1066) rfl ⟨by decide, by decide, by decide +kernel⟩ ⟨rfl, rfl, Nat.le_of_ble_eq_true rfl, Nat.le_of_ble_eq_true rfl, (by first | exact Nat.le_of_ble_eq_true rfl | (show _ ≤ 0; omega)), (by first | exact Nat.le_of_ble_eq_true rfl | (show _ ≤ 0; omega))⟩ rfl hl rfl (Nat.le_of_ble_eq_true rfl) dX2_against_2) hw (fun r1 G1 H locs hp1 hw => ?_)
  obtain ⟨hre, hGe⟩ := hp1
  have hre : r1 = pt_b (pm_of t (iv 2)) := hre
  obtain rfl := hre.symm
  obtain rfl := hGe.symm
  refine lv_if_ne (tgt := 10) hx hb dX2_against_5 (by decide) (fun c5 => ?_) (fun c5 => ?_)
  · replace c5 := pt_b1 c5
    refine lv_iload_n hx hb dX2_against_10 rfl (lv_at hl 2 rfl) ?_
    refine lv_iconst (v := 0) hx hb dX2_against_11 (by decide) ?_
    refine lv_sipush (v := 20000) hx hb dX2_against_12 (by decide) ?_
    refine tf_goi (tf_S (n := 3) C hw [.int time, .int 0, .int 20000] (metX2_within hB time 0 20000) (lw_S q1052 q1053 q45 q1054) ⟨by decide, by decide, by decide +kernel⟩ ⟨rfl, rfl, Nat.le_of_ble_eq_true rfl, Nat.le_of_ble_eq_true rfl, (by first | exact Nat.le_of_ble_eq_true rfl | (show _ ≤ 0; omega)), (by first | exact Nat.le_of_ble_eq_true rfl | (show _ ≤ 0; omega))⟩ rfl hl rfl (Nat.le_of_ble_eq_true rfl) dX2_against_15) hw (fun r2 G2 H locs hp2 hw => ?_)
    obtain ⟨hre, hGe⟩ := hp2
    have hre : r2 = pt_b (pm_in time 0 20000) := hre
    obtain rfl := hre.symm
    obtain rfl := hGe.symm
    refine lv_if_eq (tgt := 61) hx hb dX2_against_18 (by decide) (fun c18 => ?_) (fun c18 => ?_)
    · replace c18 := pt_b0 c18
      refine lv_iconst (v := 0) hx hb dX2_against_61 (by decide) ?_
      refine lv_istore (lv' := [(5, .int 0), (0, .ref mm), (1, .int t), (2, .int time), (3, .int low), (4, .int high)]) hx hb dX2_against_62 hl (by decide) rfl (fun ls hl => ?_)
      refine lv_iload hx hb dX2_against_64 (lv_at hl 0 rfl) ?_
      refine lv_if_eq (tgt := 73) hx hb dX2_against_66 (by decide) (fun c66 => ?_) (fun c66 => absurd c66 (not_not_intro rfl))
      refine lv_bipush (v := (-2)) hx hb dX2_against_73 (by decide) ?_
      exact tf_reti C hw hr hlk dX2_against_75 (by first | exact Nat.le_of_ble_eq_true rfl | omega) (by first | exact Nat.le_of_ble_eq_true rfl | omega) (by refine ⟨?_, rfl⟩; simp [pm_against, c5, c18] <;> decide)
    · replace c18 := pt_b1 c18
      refine lv_iload_n hx hb dX2_against_21 rfl (lv_at hl 3 rfl) ?_
      refine lv_iconst (v := 0) hx hb dX2_against_22 (by decide) ?_
      refine lv_sipush (v := 255) hx hb dX2_against_23 (by decide) ?_
      refine tf_goi (tf_S (n := 3) C hw [.int low, .int 0, .int 255] (metX2_within hB low 0 255) (lw_S q1052 q1053 q45 q1054) ⟨by decide, by decide, by decide +kernel⟩ ⟨rfl, rfl, Nat.le_of_ble_eq_true rfl, Nat.le_of_ble_eq_true rfl, (by first | exact Nat.le_of_ble_eq_true rfl | (show _ ≤ 0; omega)), (by first | exact Nat.le_of_ble_eq_true rfl | (show _ ≤ 0; omega))⟩ rfl hl rfl (Nat.le_of_ble_eq_true rfl) dX2_against_26) hw (fun r3 G3 H locs hp3 hw => ?_)
      obtain ⟨hre, hGe⟩ := hp3
      have hre : r3 = pt_b (pm_in low 0 255) := hre
      obtain rfl := hre.symm
      obtain rfl := hGe.symm
      refine lv_if_eq (tgt := 61) hx hb dX2_against_29 (by decide) (fun c29 => ?_) (fun c29 => ?_)
      · replace c29 := pt_b0 c29
        refine lv_iconst (v := 0) hx hb dX2_against_61 (by decide) ?_
        refine lv_istore (lv' := [(5, .int 0), (0, .ref mm), (1, .int t), (2, .int time), (3, .int low), (4, .int high)]) hx hb dX2_against_62 hl (by decide) rfl (fun ls hl => ?_)
        refine lv_iload hx hb dX2_against_64 (lv_at hl 0 rfl) ?_
        refine lv_if_eq (tgt := 73) hx hb dX2_against_66 (by decide) (fun c66 => ?_) (fun c66 => absurd c66 (not_not_intro rfl))
        refine lv_bipush (v := (-2)) hx hb dX2_against_73 (by decide) ?_
        exact tf_reti C hw hr hlk dX2_against_75 (by first | exact Nat.le_of_ble_eq_true rfl | omega) (by first | exact Nat.le_of_ble_eq_true rfl | omega) (by refine ⟨?_, rfl⟩; simp [pm_against, c5, c18, c29] <;> decide)
      · replace c29 := pt_b1 c29
        refine lv_iload hx hb dX2_against_32 (lv_at hl 4 rfl) ?_
        refine lv_iconst (v := (-1)) hx hb dX2_against_34 (by decide) ?_
        refine lv_sipush (v := 255) hx hb dX2_against_35 (by decide) ?_
        refine tf_goi (tf_S (n := 3) C hw [.int high, .int ((-1)), .int 255] (metX2_within hB high ((-1)) 255) (lw_S q1052 q1053 q45 q1054) ⟨by decide, by decide, by decide +kernel⟩ ⟨rfl, rfl, Nat.le_of_ble_eq_true rfl, Nat.le_of_ble_eq_true rfl, (by first | exact Nat.le_of_ble_eq_true rfl | (show _ ≤ 0; omega)), (by first | exact Nat.le_of_ble_eq_true rfl | (show _ ≤ 0; omega))⟩ rfl hl rfl (Nat.le_of_ble_eq_true rfl) dX2_against_38) hw (fun r4 G4 H locs hp4 hw => ?_)
        obtain ⟨hre, hGe⟩ := hp4
        have hre : r4 = pt_b (pm_in high ((-1)) 255) := hre
        obtain rfl := hre.symm
        obtain rfl := hGe.symm
        refine lv_if_eq (tgt := 61) hx hb dX2_against_41 (by decide) (fun c41 => ?_) (fun c41 => ?_)
        · replace c41 := pt_b0 c41
          refine lv_iconst (v := 0) hx hb dX2_against_61 (by decide) ?_
          refine lv_istore (lv' := [(5, .int 0), (0, .ref mm), (1, .int t), (2, .int time), (3, .int low), (4, .int high)]) hx hb dX2_against_62 hl (by decide) rfl (fun ls hl => ?_)
          refine lv_iload hx hb dX2_against_64 (lv_at hl 0 rfl) ?_
          refine lv_if_eq (tgt := 73) hx hb dX2_against_66 (by decide) (fun c66 => ?_) (fun c66 => absurd c66 (not_not_intro rfl))
          refine lv_bipush (v := (-2)) hx hb dX2_against_73 (by decide) ?_
          exact tf_reti C hw hr hlk dX2_against_75 (by first | exact Nat.le_of_ble_eq_true rfl | omega) (by first | exact Nat.le_of_ble_eq_true rfl | omega) (by refine ⟨?_, rfl⟩; simp [pm_against, c5, c18, c29, c41] <;> decide)
        · replace c41 := pt_b1 c41
          refine lv_iload_n hx hb dX2_against_44 rfl (lv_at hl 3 rfl) ?_
          refine lv_sipush (v := 255) hx hb dX2_against_45 (by decide) ?_
          refine lv_icmp_eq (tgt := 57) hx hb dX2_against_48 (by decide) (fun c48 => ?_) (fun c48 => ?_)
          · refine lv_iconst (v := 1) hx hb dX2_against_57 (by decide) ?_
            refine lv_goto (tgt := 62) hx hb dX2_against_58 (by decide) ?_
            refine lv_istore (lv' := [(5, .int 1), (0, .ref mm), (1, .int t), (2, .int time), (3, .int low), (4, .int high)]) hx hb dX2_against_62 hl (by decide) rfl (fun ls hl => ?_)
            refine lv_iload hx hb dX2_against_64 (lv_at hl 0 rfl) ?_
            refine lv_if_eq (tgt := 73) hx hb dX2_against_66 (by decide) (fun c66 => absurd c66 (by decide)) (fun c66 => ?_)
            refine lv_iconst (v := 0) hx hb dX2_against_69 (by decide) ?_
            refine lv_goto (tgt := 75) hx hb dX2_against_70 (by decide) ?_
            exact tf_reti C hw hr hlk dX2_against_75 (by first | exact Nat.le_of_ble_eq_true rfl | omega) (by first | exact Nat.le_of_ble_eq_true rfl | omega) (by refine ⟨?_, rfl⟩; simp [pm_against, c5, c18, c29, c41, c48] <;> decide)
          · refine lv_iload hx hb dX2_against_51 (lv_at hl 4 rfl) ?_
            refine lv_iconst (v := (-1)) hx hb dX2_against_53 (by decide) ?_
            refine lv_icmp_ne (tgt := 61) hx hb dX2_against_54 (by decide) (fun c54 => ?_) (fun c54 => ?_)
            · refine lv_iconst (v := 0) hx hb dX2_against_61 (by decide) ?_
              refine lv_istore (lv' := [(5, .int 0), (0, .ref mm), (1, .int t), (2, .int time), (3, .int low), (4, .int high)]) hx hb dX2_against_62 hl (by decide) rfl (fun ls hl => ?_)
              refine lv_iload hx hb dX2_against_64 (lv_at hl 0 rfl) ?_
              refine lv_if_eq (tgt := 73) hx hb dX2_against_66 (by decide) (fun c66 => ?_) (fun c66 => absurd c66 (not_not_intro rfl))
              refine lv_bipush (v := (-2)) hx hb dX2_against_73 (by decide) ?_
              exact tf_reti C hw hr hlk dX2_against_75 (by first | exact Nat.le_of_ble_eq_true rfl | omega) (by first | exact Nat.le_of_ble_eq_true rfl | omega) (by refine ⟨?_, rfl⟩; simp [pm_against, c5, c18, c29, c41, c48, c54] <;> decide)
            · refine lv_iconst (v := 1) hx hb dX2_against_57 (by decide) ?_
              refine lv_goto (tgt := 62) hx hb dX2_against_58 (by decide) ?_
              refine lv_istore (lv' := [(5, .int 1), (0, .ref mm), (1, .int t), (2, .int time), (3, .int low), (4, .int high)]) hx hb dX2_against_62 hl (by decide) rfl (fun ls hl => ?_)
              refine lv_iload hx hb dX2_against_64 (lv_at hl 0 rfl) ?_
              refine lv_if_eq (tgt := 73) hx hb dX2_against_66 (by decide) (fun c66 => absurd c66 (by decide)) (fun c66 => ?_)
              refine lv_iconst (v := 0) hx hb dX2_against_69 (by decide) ?_
              refine lv_goto (tgt := 75) hx hb dX2_against_70 (by decide) ?_
              exact tf_reti C hw hr hlk dX2_against_75 (by first | exact Nat.le_of_ble_eq_true rfl | omega) (by first | exact Nat.le_of_ble_eq_true rfl | omega) (by refine ⟨?_, rfl⟩; simp [pm_against, c5, c18, c29, c41, c48, c54] <;> decide)
  · replace c5 := pt_b0 c5
    refine lv_iconst (v := (-1)) hx hb dX2_against_8 (by decide) ?_
    exact tf_reti C hw hr hlk dX2_against_9 (by first | exact Nat.le_of_ble_eq_true rfl | omega) (by first | exact Nat.le_of_ble_eq_true rfl | omega) (by refine ⟨?_, rfl⟩; simp [pm_against, c5] <;> decide)

set_option maxHeartbeats 4000000 in
set_option maxRecDepth 100000 in
theorem metX2_addHit {l : Launch} {S0 : State} {D : va_G} {dA : Nat → ClassId} (hB : tf_B S0 D dA) {sz : Nat} {G : tf_Pic} {mm : Nat} {ad : Nat → Nat} {iv : Nat → Int32} {ar : Nat → Nat → Int32} {fr : Nat → Int64} (hm : mo_W dA mm ad iv ar fr G) {n : Nat} (h5 : iv 5 = nI n) (hn : n < 240) (t time low high : Int32) : Met l yX2_addHit (ws_ yX2_addHit cX2_addHit 5 none) (tf_rm 1 0 0) (tf_Pc S0 D sz G [.ref mm, .int t, .int time, .int low, .int high]) (tf_Qv S0 D sz G (fun G1 => mo_W dA mm ad (va_up iv 5 (nI (n + 1))) (va_up (va_up (va_up (va_up ar 6 (upd (ar 6) n t)) 7 (upd (ar 7) n time)) 8 (upd (ar 8) n low)) 9 (upd (ar 9) n high)) fr G1)) 0 0 (tf_A G sz) := by
  refine Met.ofW (cc := cX2_addHit) (maxL := 5) (ret := none) (by decide) rfl ?_
  intro p e s m args below meth c s₁ B hml hv
  obtain ⟨C, hw, hr, hlk, hin, hargs⟩ := tf_enter hB B hml hv
  subst hargs
  have C : tf_C p s m ([.ref mm, .int t, .int time, .int low, .int high] : List Value).toArray c cX2_addHit 5 RX2 S0 D dA := C
  have hx := C.hx
  have hb := C.hb
  change W p l e (tf_rm 1 0 0) s m ([.ref mm, .int t, .int time, .int low, .int high] : List Value).toArray below meth c s.heap [] 0 0 (MQ below (tf_Qv S0 D sz G (fun G1 => mo_W dA mm ad (va_up iv 5 (nI (n + 1))) (va_up (va_up (va_up (va_up ar 6 (upd (ar 6) n t)) 7 (upd (ar 7) n time)) 8 (upd (ar 8) n low)) 9 (upd (ar 9) n high)) fr G1)) ([.ref mm, .int t, .int time, .int low, .int high] : List Value).toArray s 0 0 (tf_A G sz)) (entryFrame m ([.ref mm, .int t, .int time, .int low, .int high] : List Value).toArray 5)
  refine tf_start [.ref mm, .int t, .int time, .int low, .int high] (Nat.le_of_ble_eq_true rfl) (fun ls hl => ?_)
  have hl : lv_has ls 5 [(0, .ref mm), (1, .int t), (2, .int time), (3, .int low), (4, .int high)] := hl
  refine lv_aload_n hx hb dX2_addHit_0 rfl (lv_at hl 0 rfl) ?_
  refine gf_X2_16 C hw hm.1 (v := .ref (ad 6)) rfl dX2_addHit_1 ?_
  refine lv_aload_n hx hb dX2_addHit_4 rfl (lv_at hl 0 rfl) ?_
  refine gf_X2_107 C hw hm.1 (v := .int (nI n)) (by rw [← h5]; rfl) dX2_addHit_5 ?_
  refine lv_iload_n hx hb dX2_addHit_8 rfl (lv_at hl 1 rfl) ?_
  refine mo_ast C hw hm 6 (by decide) (by decide) (ar 6) rfl n rfl (show n < 240 by omega) dX2_addHit_9 (fun G1 H locs hm hw => ?_)
  refine lv_aload_n hx hb dX2_addHit_10 rfl (lv_at hl 0 rfl) ?_
  refine gf_X2_19 C hw hm.1 (v := .ref (ad 7)) rfl dX2_addHit_11 ?_
  refine lv_aload_n hx hb dX2_addHit_14 rfl (lv_at hl 0 rfl) ?_
  refine gf_X2_107 C hw hm.1 (v := .int (nI n)) (by rw [← h5]; rfl) dX2_addHit_15 ?_
  refine lv_iload_n hx hb dX2_addHit_18 rfl (lv_at hl 2 rfl) ?_
  refine mo_ast C hw hm 7 (by decide) (by decide) (ar 7) rfl n rfl (show n < 240 by omega) dX2_addHit_19 (fun G2 H locs hm hw => ?_)
  refine lv_aload_n hx hb dX2_addHit_20 rfl (lv_at hl 0 rfl) ?_
  refine gf_X2_22 C hw hm.1 (v := .ref (ad 8)) rfl dX2_addHit_21 ?_
  refine lv_aload_n hx hb dX2_addHit_24 rfl (lv_at hl 0 rfl) ?_
  refine gf_X2_107 C hw hm.1 (v := .int (nI n)) (by rw [← h5]; rfl) dX2_addHit_25 ?_
  refine lv_iload_n hx hb dX2_addHit_28 rfl (lv_at hl 3 rfl) ?_
  refine mo_ast C hw hm 8 (by decide) (by decide) (ar 8) rfl n rfl (show n < 240 by omega) dX2_addHit_29 (fun G3 H locs hm hw => ?_)
  refine lv_aload_n hx hb dX2_addHit_30 rfl (lv_at hl 0 rfl) ?_
  refine gf_X2_25 C hw hm.1 (v := .ref (ad 9)) rfl dX2_addHit_31 ?_
  refine lv_aload_n hx hb dX2_addHit_34 rfl (lv_at hl 0 rfl) ?_
  refine gf_X2_107 C hw hm.1 (v := .int (nI n)) (by rw [← h5]; rfl) dX2_addHit_35 ?_
  refine lv_iload hx hb dX2_addHit_38 (lv_at hl 4 rfl) ?_
  refine mo_ast C hw hm 9 (by decide) (by decide) (ar 9) rfl n rfl (show n < 240 by omega) dX2_addHit_40 (fun G4 H locs hm hw => ?_)
  refine lv_aload_n hx hb dX2_addHit_41 rfl (lv_at hl 0 rfl) ?_
  refine lv_dup hx hb dX2_addHit_42 rfl ?_
  refine gf_X2_107 C hw hm.1 (v := .int (nI n)) (by rw [← h5]; rfl) dX2_addHit_43 ?_
  refine lv_iconst (v := 1) hx hb dX2_addHit_46 (by decide) ?_
  refine tf_iaddN hx hb n 1 rfl rfl dX2_addHit_47 ?_
  refine pf_X2_107 C hw hm.1 (nI (n + 1)) (Nat.le_of_ble_eq_true rfl) dX2_addHit_48 (mo_put hm 5 (by decide) (fun G5 H locs hm hw => ?_))
  exact tf_retv C hw hr hlk dX2_addHit_51 (by first | exact Nat.le_of_ble_eq_true rfl | omega) (by first | exact Nat.le_of_ble_eq_true rfl | omega) (hm)

/-- a hit is added -/
def pm_addar (ar : Nat → Nat → Int32) (n : Nat) (t time low high : Int32) : Nat → Nat → Int32 := va_up (va_up (va_up (va_up ar 6 (upd (ar 6) n t)) 7 (upd (ar 7) n time)) 8 (upd (ar 8) n low)) 9 (upd (ar 9) n high)
def pm_hit (iv : Nat → Int32) (ar : Nat → Nat → Int32) (n : Nat) (t time low high : Int32) : Int32 × (Nat → Int32) × (Nat → Nat → Int32) := if pm_against (iv 2) t time low high = 0 then (if n = 240 then (-4, iv, ar) else (nI n, va_up iv 5 (nI (n + 1)), pm_addar ar n t time low high)) else (pm_against (iv 2) t time low high, iv, ar)

set_option maxHeartbeats 4000000 in
set_option maxRecDepth 100000 in
theorem metX2_hit {l : Launch} {S0 : State} {D : va_G} {dA : Nat → ClassId} (hB : tf_B S0 D dA) {sz : Nat} {G : tf_Pic} {mm : Nat} {ad : Nat → Nat} {iv : Nat → Int32} {ar : Nat → Nat → Int32} {fr : Nat → Int64} (hm : mo_W dA mm ad iv ar fr G) {n : Nat} (h5 : iv 5 = nI n) (hn : n ≤ 240) (t time low high : Int32) : Met l yX2_hit (ws_ yX2_hit cX2_hit 6 (some .int)) (tf_rm 3 0 0) (tf_Pc S0 D sz G [.ref mm, .int t, .int time, .int low, .int high]) (tf_Qi S0 D sz G (fun r G1 => ∃ iv1 ar1, (r, iv1, ar1) = pm_hit iv ar n t time low high ∧ mo_W dA mm ad iv1 ar1 fr G1)) 0 0 (tf_A G sz) := by
  refine Met.ofW (cc := cX2_hit) (maxL := 6) (ret := (some .int)) (by decide) rfl ?_
  intro p e s m args below meth c s₁ B hml hv
  obtain ⟨C, hw, hr, hlk, hin, hargs⟩ := tf_enter hB B hml hv
  subst hargs
  have C : tf_C p s m ([.ref mm, .int t, .int time, .int low, .int high] : List Value).toArray c cX2_hit 6 RX2 S0 D dA := C
  have hx := C.hx
  have hb := C.hb
  change W p l e (tf_rm 3 0 0) s m ([.ref mm, .int t, .int time, .int low, .int high] : List Value).toArray below meth c s.heap [] 0 0 (MQ below (tf_Qi S0 D sz G (fun r G1 => ∃ iv1 ar1, (r, iv1, ar1) = pm_hit iv ar n t time low high ∧ mo_W dA mm ad iv1 ar1 fr G1)) ([.ref mm, .int t, .int time, .int low, .int high] : List Value).toArray s 0 0 (tf_A G sz)) (entryFrame m ([.ref mm, .int t, .int time, .int low, .int high] : List Value).toArray 6)
  refine tf_start [.ref mm, .int t, .int time, .int low, .int high] (Nat.le_of_ble_eq_true rfl) (fun ls hl => ?_)
  have hl : lv_has ls 6 [(0, .ref mm), (1, .int t), (2, .int time), (3, .int low), (4, .int high)] := hl
  refine lv_aload_n hx hb dX2_hit_0 rfl (lv_at hl 0 rfl) ?_
  refine lv_iload_n hx hb dX2_hit_1 rfl (lv_at hl 1 rfl) ?_
  refine lv_iload_n hx hb dX2_hit_2 rfl (lv_at hl 2 rfl) ?_
  refine lv_iload_n hx hb dX2_hit_3 rfl (lv_at hl 3 rfl) ?_
  refine lv_iload hx hb dX2_hit_4 (lv_at hl 4 rfl) ?_
  refine tf_goi (tf_V (n := 4) C hw hm.1 rfl [.int t, .int time, .int low, .int high] (metX2_against hB hm t time low high) (lw_V q1059 q1061 qs19 q45 q1062) rfl ⟨by decide, by decide, by decide +kernel⟩ ⟨rfl, rfl, Nat.le_of_ble_eq_true rfl, Nat.le_of_ble_eq_true rfl, (by first | exact Nat.le_of_ble_eq_true rfl | (show _ ≤ 0; omega)), (by first | exact Nat.le_of_ble_eq_true rfl | (show _ ≤ 0; omega))⟩ rfl hl rfl (Nat.le_of_ble_eq_true rfl) dX2_hit_6) hw (fun r1 G1 H locs hp1 hw => ?_)
  obtain ⟨hre, hGe⟩ := hp1
  have hre : r1 = pm_against (iv 2) t time low high := hre
  obtain rfl := hre.symm
  obtain rfl := hGe.symm
  refine lv_istore (lv' := [(5, .int (pm_against (iv 2) t time low high)), (0, .ref mm), (1, .int t), (2, .int time), (3, .int low), (4, .int high)]) hx hb dX2_hit_9 hl (by decide) rfl (fun ls hl => ?_)
  refine lv_iload hx hb dX2_hit_11 (lv_at hl 0 rfl) ?_
  refine lv_if_eq (tgt := 19) hx hb dX2_hit_13 (by decide) (fun c13 => ?_) (fun c13 => ?_)
  · refine lv_aload_n hx hb dX2_hit_19 rfl (lv_at hl 1 rfl) ?_
    refine gf_X2_107 C hw hm.1 (v := .int (nI n)) (by rw [← h5]; rfl) dX2_hit_20 ?_
    refine lv_sipush (v := 240) hx hb dX2_hit_23 (by decide) ?_
    refine tf_icmp_neN hx hb n 240 rfl rfl (tgt := 32) dX2_hit_26 (by decide) (by omega) (by omega) (fun c26 => ?_) (fun c26 => ?_)
    · refine lv_aload_n hx hb dX2_hit_32 rfl (lv_at hl 1 rfl) ?_
      refine lv_iload_n hx hb dX2_hit_33 rfl (lv_at hl 2 rfl) ?_
      refine lv_iload_n hx hb dX2_hit_34 rfl (lv_at hl 3 rfl) ?_
      refine lv_iload_n hx hb dX2_hit_35 rfl (lv_at hl 4 rfl) ?_
      refine lv_iload hx hb dX2_hit_36 (lv_at hl 5 rfl) ?_
      refine tf_gov (tf_V (n := 4) C hw hm.1 rfl [.int t, .int time, .int low, .int high] (metX2_addHit hB hm h5 (by omega) t time low high) (lw_V q1067 q1069 qs21 q45 q1070) rfl ⟨by decide, by decide, by decide +kernel⟩ ⟨rfl, rfl, Nat.le_of_ble_eq_true rfl, Nat.le_of_ble_eq_true rfl, (by first | exact Nat.le_of_ble_eq_true rfl | (show _ ≤ 0; omega)), (by first | exact Nat.le_of_ble_eq_true rfl | (show _ ≤ 0; omega))⟩ rfl hl rfl (Nat.le_of_ble_eq_true rfl) dX2_hit_38) hw (fun G2 H locs hp2 hw => ?_)
      have hm : mo_W dA mm ad (va_up iv 5 (nI (n + 1))) (pm_addar ar n t time low high) fr G2 := hp2
      refine lv_aload_n hx hb dX2_hit_41 rfl (lv_at hl 1 rfl) ?_
      refine gf_X2_107 C hw hm.1 (v := .int (nI (n + 1))) rfl dX2_hit_42 ?_
      refine lv_iconst (v := 1) hx hb dX2_hit_45 (by decide) ?_
      refine tf_isubN hx hb (n + 1) 1 rfl rfl (by omega) dX2_hit_46 ?_
      exact tf_reti C hw hr hlk dX2_hit_47 (by first | exact Nat.le_of_ble_eq_true rfl | omega) (by first | exact Nat.le_of_ble_eq_true rfl | omega) (by refine ⟨_, _, ?_, hm⟩; simp [pm_hit, c13, c26])
    · refine lv_bipush (v := (-4)) hx hb dX2_hit_29 (by decide) ?_
      exact tf_reti C hw hr hlk dX2_hit_31 (by first | exact Nat.le_of_ble_eq_true rfl | omega) (by first | exact Nat.le_of_ble_eq_true rfl | omega) (by refine ⟨_, _, ?_, hm⟩; simp [pm_hit, c13, c26])
  · refine lv_iload hx hb dX2_hit_16 (lv_at hl 0 rfl) ?_
    exact tf_reti C hw hr hlk dX2_hit_18 (by first | exact Nat.le_of_ble_eq_true rfl | omega) (by first | exact Nat.le_of_ble_eq_true rfl | omega) (by refine ⟨_, _, ?_, hm⟩; simp [pm_hit, c13])

/-- a clock, a down: three numbers more in the arrays k, k + 1, k + 2 -/
def pm_three (ar : Nat → Nat → Int32) (k n : Nat) (a b c : Int32) : Nat → Nat → Int32 := va_up (va_up (va_up ar k (upd (ar k) n a)) (k + 1) (upd (ar (k + 1)) n b)) (k + 2) (upd (ar (k + 2)) n c)
def pm_clock (iv : Nat → Int32) (ar : Nat → Nat → Int32) (n : Nat) (t v w : Int32) : Int32 × (Nat → Int32) × (Nat → Nat → Int32) := if pm_of t (iv 2) then (if pm_in v 0 20000 && pm_in w (-500) 500 then (if n = 20 then (-4, iv, ar) else (nI (n + 1), va_up iv 10 (nI (n + 1)), pm_three ar 11 n t v w)) else (-2, iv, ar)) else (-1, iv, ar)
def pm_down (iv : Nat → Int32) (ar : Nat → Nat → Int32) (n : Nat) (t v w : Int32) : Int32 × (Nat → Int32) × (Nat → Nat → Int32) := if pm_of t (iv 2) then (if pm_in v 0 20000 && pm_in w v 20001 then (if n = 20 then (-4, iv, ar) else (nI (n + 1), va_up iv 14 (nI (n + 1)), pm_three ar 15 n t v w)) else (-2, iv, ar)) else (-1, iv, ar)

set_option maxHeartbeats 4000000 in
set_option maxRecDepth 100000 in
theorem metX2_clock {l : Launch} {S0 : State} {D : va_G} {dA : Nat → ClassId} (hB : tf_B S0 D dA) {sz : Nat} {G : tf_Pic} {mm : Nat} {ad : Nat → Nat} {iv : Nat → Int32} {ar : Nat → Nat → Int32} {fr : Nat → Int64} (hm : mo_W dA mm ad iv ar fr G) {n : Nat} (hk : iv 10 = nI n) (hn : n ≤ 20) (t v w : Int32) : Met l yX2_clock (ws_ yX2_clock cX2_clock 4 (some .int)) (tf_rm 2 0 0) (tf_Pc S0 D sz G [.ref mm, .int t, .int v, .int w]) (tf_Qi S0 D sz G (fun r G1 => ∃ iv1 ar1, (r, iv1, ar1) = pm_clock iv ar n t v w ∧ mo_W dA mm ad iv1 ar1 fr G1)) 0 0 (tf_A G sz) := by
  refine Met.ofW (cc := cX2_clock) (maxL := 4) (ret := (some .int)) (by decide) rfl ?_
  intro p e s m args below meth c s₁ B hml hv
  obtain ⟨C, hw, hr, hlk, hin, hargs⟩ := tf_enter hB B hml hv
  subst hargs
  have C : tf_C p s m ([.ref mm, .int t, .int v, .int w] : List Value).toArray c cX2_clock 4 RX2 S0 D dA := C
  have hx := C.hx
  have hb := C.hb
  change W p l e (tf_rm 2 0 0) s m ([.ref mm, .int t, .int v, .int w] : List Value).toArray below meth c s.heap [] 0 0 (MQ below (tf_Qi S0 D sz G (fun r G1 => ∃ iv1 ar1, (r, iv1, ar1) = pm_clock iv ar n t v w ∧ mo_W dA mm ad iv1 ar1 fr G1)) ([.ref mm, .int t, .int v, .int w] : List Value).toArray s 0 0 (tf_A G sz)) (entryFrame m ([.ref mm, .int t, .int v, .int w] : List Value).toArray 4)
  refine tf_start [.ref mm, .int t, .int v, .int w] (Nat.le_of_ble_eq_true rfl) (fun ls hl => ?_)
  have hl : lv_has ls 4 [(0, .ref mm), (1, .int t), (2, .int v), (3, .int w)] := hl
  refine lv_aload_n hx hb dX2_clock_0 rfl (lv_at hl 0 rfl) ?_
  refine lv_iload_n hx hb dX2_clock_1 rfl (lv_at hl 1 rfl) ?_
  refine tf_goi (tf_V (n := 1) C hw hm.1 rfl [.int t] (metX2_isTank hB hm t) (lw_V q1063 q1065 qs20 q45 q1066) rfl ⟨by decide, by decide, by decide +kernel⟩ ⟨rfl, rfl, Nat.le_of_ble_eq_true rfl, Nat.le_of_ble_eq_true rfl, (by first | exact Nat.le_of_ble_eq_true rfl | (show _ ≤ 0; omega)), (by first | exact Nat.le_of_ble_eq_true rfl | (show _ ≤ 0; omega))⟩ rfl hl rfl (Nat.le_of_ble_eq_true rfl) dX2_clock_2) hw (fun r1 G1 H locs hp1 hw => ?_)
  obtain ⟨hre, hGe⟩ := hp1
  have hre : r1 = pt_b (pm_of t (iv 2)) := hre
  obtain rfl := hre.symm
  obtain rfl := hGe.symm
  refine lv_if_ne (tgt := 10) hx hb dX2_clock_5 (by decide) (fun c5 => ?_) (fun c5 => ?_)
  · replace c5 := pt_b1 c5
    refine lv_iload_n hx hb dX2_clock_10 rfl (lv_at hl 2 rfl) ?_
    refine lv_iconst (v := 0) hx hb dX2_clock_11 (by decide) ?_
    refine lv_sipush (v := 20000) hx hb dX2_clock_12 (by decide) ?_
    refine tf_goi (tf_S (n := 3) C hw [.int v, .int 0, .int 20000] (metX2_within hB v 0 20000) (lw_S q1052 q1053 q45 q1054) ⟨by decide, by decide, by decide +kernel⟩ ⟨rfl, rfl, Nat.le_of_ble_eq_true rfl, Nat.le_of_ble_eq_true rfl, (by first | exact Nat.le_of_ble_eq_true rfl | (show _ ≤ 0; omega)), (by first | exact Nat.le_of_ble_eq_true rfl | (show _ ≤ 0; omega))⟩ rfl hl rfl (Nat.le_of_ble_eq_true rfl) dX2_clock_15) hw (fun r2 G2 H locs hp2 hw => ?_)
    obtain ⟨hre, hGe⟩ := hp2
    have hre : r2 = pt_b (pm_in v 0 20000) := hre
    obtain rfl := hre.symm
    obtain rfl := hGe.symm
    refine lv_if_eq (tgt := 34) hx hb dX2_clock_18 (by decide) (fun c18 => ?_) (fun c18 => ?_)
    · replace c18 := pt_b0 c18
      refine lv_bipush (v := (-2)) hx hb dX2_clock_34 (by decide) ?_
      exact tf_reti C hw hr hlk dX2_clock_36 (by first | exact Nat.le_of_ble_eq_true rfl | omega) (by first | exact Nat.le_of_ble_eq_true rfl | omega) (by refine ⟨_, _, ?_, hm⟩; simp [pm_clock, pm_three, c5, c18])
    · replace c18 := pt_b1 c18
      refine lv_iload_n hx hb dX2_clock_21 rfl (lv_at hl 3 rfl) ?_
      refine lv_sipush (v := (-500)) hx hb dX2_clock_22 (by decide) ?_
      refine lv_sipush (v := 500) hx hb dX2_clock_25 (by decide) ?_
      refine tf_goi (tf_S (n := 3) C hw [.int w, .int ((-500)), .int 500] (metX2_within hB w ((-500)) 500) (lw_S q1052 q1053 q45 q1054) ⟨by decide, by decide, by decide +kernel⟩ ⟨rfl, rfl, Nat.le_of_ble_eq_true rfl, Nat.le_of_ble_eq_true rfl, (by first | exact Nat.le_of_ble_eq_true rfl | (show _ ≤ 0; omega)), (by first | exact Nat.le_of_ble_eq_true rfl | (show _ ≤ 0; omega))⟩ rfl hl rfl (Nat.le_of_ble_eq_true rfl) dX2_clock_28) hw (fun r3 G3 H locs hp3 hw => ?_)
      obtain ⟨hre, hGe⟩ := hp3
      have hre : r3 = pt_b (pm_in w ((-500)) 500) := hre
      obtain rfl := hre.symm
      obtain rfl := hGe.symm
      refine lv_if_ne (tgt := 37) hx hb dX2_clock_31 (by decide) (fun c31 => ?_) (fun c31 => ?_)
      · replace c31 := pt_b1 c31
        refine lv_aload_n hx hb dX2_clock_37 rfl (lv_at hl 0 rfl) ?_
        refine gf_X2_132 C hw hm.1 (v := .int (nI n)) (by rw [← hk]; rfl) dX2_clock_38 ?_
        refine lv_bipush (v := 20) hx hb dX2_clock_41 (by decide) ?_
        refine tf_icmp_neN hx hb n 20 rfl rfl (tgt := 49) dX2_clock_43 (by decide) (by omega) (by omega) (fun c43 => ?_) (fun c43 => ?_)
        · refine lv_aload_n hx hb dX2_clock_49 rfl (lv_at hl 0 rfl) ?_
          refine gf_X2_28 C hw hm.1 (v := .ref (ad 11)) rfl dX2_clock_50 ?_
          refine lv_aload_n hx hb dX2_clock_53 rfl (lv_at hl 0 rfl) ?_
          refine gf_X2_132 C hw hm.1 (v := .int (nI n)) (by rw [← hk]; rfl) dX2_clock_54 ?_
          refine lv_iload_n hx hb dX2_clock_57 rfl (lv_at hl 1 rfl) ?_
          refine mo_ast C hw hm 11 (by decide) (by decide) (ar 11) rfl n rfl (show n < 20 by omega) dX2_clock_58 (fun G4 H locs hm hw => ?_)
          refine lv_aload_n hx hb dX2_clock_59 rfl (lv_at hl 0 rfl) ?_
          refine gf_X2_31 C hw hm.1 (v := .ref (ad 12)) rfl dX2_clock_60 ?_
          refine lv_aload_n hx hb dX2_clock_63 rfl (lv_at hl 0 rfl) ?_
          refine gf_X2_132 C hw hm.1 (v := .int (nI n)) (by rw [← hk]; rfl) dX2_clock_64 ?_
          refine lv_iload_n hx hb dX2_clock_67 rfl (lv_at hl 2 rfl) ?_
          refine mo_ast C hw hm 12 (by decide) (by decide) (ar 12) rfl n rfl (show n < 20 by omega) dX2_clock_68 (fun G5 H locs hm hw => ?_)
          refine lv_aload_n hx hb dX2_clock_69 rfl (lv_at hl 0 rfl) ?_
          refine gf_X2_34 C hw hm.1 (v := .ref (ad 13)) rfl dX2_clock_70 ?_
          refine lv_aload_n hx hb dX2_clock_73 rfl (lv_at hl 0 rfl) ?_
          refine gf_X2_132 C hw hm.1 (v := .int (nI n)) (by rw [← hk]; rfl) dX2_clock_74 ?_
          refine lv_iload_n hx hb dX2_clock_77 rfl (lv_at hl 3 rfl) ?_
          refine mo_ast C hw hm 13 (by decide) (by decide) (ar 13) rfl n rfl (show n < 20 by omega) dX2_clock_78 (fun G6 H locs hm hw => ?_)
          refine lv_aload_n hx hb dX2_clock_79 rfl (lv_at hl 0 rfl) ?_
          refine lv_dup hx hb dX2_clock_80 rfl ?_
          refine gf_X2_132 C hw hm.1 (v := .int (nI n)) (by rw [← hk]; rfl) dX2_clock_81 ?_
          refine lv_iconst (v := 1) hx hb dX2_clock_84 (by decide) ?_
          refine tf_iaddN hx hb n 1 rfl rfl dX2_clock_85 ?_
          refine pf_X2_132 C hw hm.1 (nI (n + 1)) (Nat.le_of_ble_eq_true rfl) dX2_clock_86 (mo_put hm 10 (by decide) (fun G7 H locs hm hw => ?_))
          refine lv_aload_n hx hb dX2_clock_89 rfl (lv_at hl 0 rfl) ?_
          refine gf_X2_132 C hw hm.1 (v := .int (nI (n + 1))) rfl dX2_clock_90 ?_
          exact tf_reti C hw hr hlk dX2_clock_93 (by first | exact Nat.le_of_ble_eq_true rfl | omega) (by first | exact Nat.le_of_ble_eq_true rfl | omega) (by refine ⟨_, _, ?_, hm⟩; simp [pm_clock, pm_three, c5, c18, c31, c43])
        · refine lv_bipush (v := (-4)) hx hb dX2_clock_46 (by decide) ?_
          exact tf_reti C hw hr hlk dX2_clock_48 (by first | exact Nat.le_of_ble_eq_true rfl | omega) (by first | exact Nat.le_of_ble_eq_true rfl | omega) (by refine ⟨_, _, ?_, hm⟩; simp [pm_clock, pm_three, c5, c18, c31, c43])
      · replace c31 := pt_b0 c31
        refine lv_bipush (v := (-2)) hx hb dX2_clock_34 (by decide) ?_
        exact tf_reti C hw hr hlk dX2_clock_36 (by first | exact Nat.le_of_ble_eq_true rfl | omega) (by first | exact Nat.le_of_ble_eq_true rfl | omega) (by refine ⟨_, _, ?_, hm⟩; simp [pm_clock, pm_three, c5, c18, c31])
  · replace c5 := pt_b0 c5
    refine lv_iconst (v := (-1)) hx hb dX2_clock_8 (by decide) ?_
    exact tf_reti C hw hr hlk dX2_clock_9 (by first | exact Nat.le_of_ble_eq_true rfl | omega) (by first | exact Nat.le_of_ble_eq_true rfl | omega) (by refine ⟨_, _, ?_, hm⟩; simp [pm_clock, pm_three, c5])

set_option maxHeartbeats 4000000 in
set_option maxRecDepth 100000 in
theorem metX2_down {l : Launch} {S0 : State} {D : va_G} {dA : Nat → ClassId} (hB : tf_B S0 D dA) {sz : Nat} {G : tf_Pic} {mm : Nat} {ad : Nat → Nat} {iv : Nat → Int32} {ar : Nat → Nat → Int32} {fr : Nat → Int64} (hm : mo_W dA mm ad iv ar fr G) {n : Nat} (hk : iv 14 = nI n) (hn : n ≤ 20) (t v w : Int32) : Met l yX2_down (ws_ yX2_down cX2_down 4 (some .int)) (tf_rm 2 0 0) (tf_Pc S0 D sz G [.ref mm, .int t, .int v, .int w]) (tf_Qi S0 D sz G (fun r G1 => ∃ iv1 ar1, (r, iv1, ar1) = pm_down iv ar n t v w ∧ mo_W dA mm ad iv1 ar1 fr G1)) 0 0 (tf_A G sz) := by
  refine Met.ofW (cc := cX2_down) (maxL := 4) (ret := (some .int)) (by decide) rfl ?_
  intro p e s m args below meth c s₁ B hml hv
  obtain ⟨C, hw, hr, hlk, hin, hargs⟩ := tf_enter hB B hml hv
  subst hargs
  have C : tf_C p s m ([.ref mm, .int t, .int v, .int w] : List Value).toArray c cX2_down 4 RX2 S0 D dA := C
  have hx := C.hx
  have hb := C.hb
  change W p l e (tf_rm 2 0 0) s m ([.ref mm, .int t, .int v, .int w] : List Value).toArray below meth c s.heap [] 0 0 (MQ below (tf_Qi S0 D sz G (fun r G1 => ∃ iv1 ar1, (r, iv1, ar1) = pm_down iv ar n t v w ∧ mo_W dA mm ad iv1 ar1 fr G1)) ([.ref mm, .int t, .int v, .int w] : List Value).toArray s 0 0 (tf_A G sz)) (entryFrame m ([.ref mm, .int t, .int v, .int w] : List Value).toArray 4)
  refine tf_start [.ref mm, .int t, .int v, .int w] (Nat.le_of_ble_eq_true rfl) (fun ls hl => ?_)
  have hl : lv_has ls 4 [(0, .ref mm), (1, .int t), (2, .int v), (3, .int w)] := hl
  refine lv_aload_n hx hb dX2_down_0 rfl (lv_at hl 0 rfl) ?_
  refine lv_iload_n hx hb dX2_down_1 rfl (lv_at hl 1 rfl) ?_
  refine tf_goi (tf_V (n := 1) C hw hm.1 rfl [.int t] (metX2_isTank hB hm t) (lw_V q1063 q1065 qs20 q45 q1066) rfl ⟨by decide, by decide, by decide +kernel⟩ ⟨rfl, rfl, Nat.le_of_ble_eq_true rfl, Nat.le_of_ble_eq_true rfl, (by first | exact Nat.le_of_ble_eq_true rfl | (show _ ≤ 0; omega)), (by first | exact Nat.le_of_ble_eq_true rfl | (show _ ≤ 0; omega))⟩ rfl hl rfl (Nat.le_of_ble_eq_true rfl) dX2_down_2) hw (fun r1 G1 H locs hp1 hw => ?_)
  obtain ⟨hre, hGe⟩ := hp1
  have hre : r1 = pt_b (pm_of t (iv 2)) := hre
  obtain rfl := hre.symm
  obtain rfl := hGe.symm
  refine lv_if_ne (tgt := 10) hx hb dX2_down_5 (by decide) (fun c5 => ?_) (fun c5 => ?_)
  · replace c5 := pt_b1 c5
    refine lv_iload_n hx hb dX2_down_10 rfl (lv_at hl 2 rfl) ?_
    refine lv_iconst (v := 0) hx hb dX2_down_11 (by decide) ?_
    refine lv_sipush (v := 20000) hx hb dX2_down_12 (by decide) ?_
    refine tf_goi (tf_S (n := 3) C hw [.int v, .int 0, .int 20000] (metX2_within hB v 0 20000) (lw_S q1052 q1053 q45 q1054) ⟨by decide, by decide, by decide +kernel⟩ ⟨rfl, rfl, Nat.le_of_ble_eq_true rfl, Nat.le_of_ble_eq_true rfl, (by first | exact Nat.le_of_ble_eq_true rfl | (show _ ≤ 0; omega)), (by first | exact Nat.le_of_ble_eq_true rfl | (show _ ≤ 0; omega))⟩ rfl hl rfl (Nat.le_of_ble_eq_true rfl) dX2_down_15) hw (fun r2 G2 H locs hp2 hw => ?_)
    obtain ⟨hre, hGe⟩ := hp2
    have hre : r2 = pt_b (pm_in v 0 20000) := hre
    obtain rfl := hre.symm
    obtain rfl := hGe.symm
    refine lv_if_eq (tgt := 32) hx hb dX2_down_18 (by decide) (fun c18 => ?_) (fun c18 => ?_)
    · replace c18 := pt_b0 c18
      refine lv_bipush (v := (-2)) hx hb dX2_down_32 (by decide) ?_
      exact tf_reti C hw hr hlk dX2_down_34 (by first | exact Nat.le_of_ble_eq_true rfl | omega) (by first | exact Nat.le_of_ble_eq_true rfl | omega) (by refine ⟨_, _, ?_, hm⟩; simp [pm_down, pm_three, c5, c18])
    · replace c18 := pt_b1 c18
      refine lv_iload_n hx hb dX2_down_21 rfl (lv_at hl 3 rfl) ?_
      refine lv_iload_n hx hb dX2_down_22 rfl (lv_at hl 2 rfl) ?_
      refine lv_sipush (v := 20001) hx hb dX2_down_23 (by decide) ?_
      refine tf_goi (tf_S (n := 3) C hw [.int w, .int v, .int 20001] (metX2_within hB w v 20001) (lw_S q1052 q1053 q45 q1054) ⟨by decide, by decide, by decide +kernel⟩ ⟨rfl, rfl, Nat.le_of_ble_eq_true rfl, Nat.le_of_ble_eq_true rfl, (by first | exact Nat.le_of_ble_eq_true rfl | (show _ ≤ 0; omega)), (by first | exact Nat.le_of_ble_eq_true rfl | (show _ ≤ 0; omega))⟩ rfl hl rfl (Nat.le_of_ble_eq_true rfl) dX2_down_26) hw (fun r3 G3 H locs hp3 hw => ?_)
      obtain ⟨hre, hGe⟩ := hp3
      have hre : r3 = pt_b (pm_in w v 20001) := hre
      obtain rfl := hre.symm
      obtain rfl := hGe.symm
      refine lv_if_ne (tgt := 35) hx hb dX2_down_29 (by decide) (fun c29 => ?_) (fun c29 => ?_)
      · replace c29 := pt_b1 c29
        refine lv_aload_n hx hb dX2_down_35 rfl (lv_at hl 0 rfl) ?_
        refine gf_X2_135 C hw hm.1 (v := .int (nI n)) (by rw [← hk]; rfl) dX2_down_36 ?_
        refine lv_bipush (v := 20) hx hb dX2_down_39 (by decide) ?_
        refine tf_icmp_neN hx hb n 20 rfl rfl (tgt := 47) dX2_down_41 (by decide) (by omega) (by omega) (fun c41 => ?_) (fun c41 => ?_)
        · refine lv_aload_n hx hb dX2_down_47 rfl (lv_at hl 0 rfl) ?_
          refine gf_X2_37 C hw hm.1 (v := .ref (ad 15)) rfl dX2_down_48 ?_
          refine lv_aload_n hx hb dX2_down_51 rfl (lv_at hl 0 rfl) ?_
          refine gf_X2_135 C hw hm.1 (v := .int (nI n)) (by rw [← hk]; rfl) dX2_down_52 ?_
          refine lv_iload_n hx hb dX2_down_55 rfl (lv_at hl 1 rfl) ?_
          refine mo_ast C hw hm 15 (by decide) (by decide) (ar 15) rfl n rfl (show n < 20 by omega) dX2_down_56 (fun G4 H locs hm hw => ?_)
          refine lv_aload_n hx hb dX2_down_57 rfl (lv_at hl 0 rfl) ?_
          refine gf_X2_40 C hw hm.1 (v := .ref (ad 16)) rfl dX2_down_58 ?_
          refine lv_aload_n hx hb dX2_down_61 rfl (lv_at hl 0 rfl) ?_
          refine gf_X2_135 C hw hm.1 (v := .int (nI n)) (by rw [← hk]; rfl) dX2_down_62 ?_
          refine lv_iload_n hx hb dX2_down_65 rfl (lv_at hl 2 rfl) ?_
          refine mo_ast C hw hm 16 (by decide) (by decide) (ar 16) rfl n rfl (show n < 20 by omega) dX2_down_66 (fun G5 H locs hm hw => ?_)
          refine lv_aload_n hx hb dX2_down_67 rfl (lv_at hl 0 rfl) ?_
          refine gf_X2_43 C hw hm.1 (v := .ref (ad 17)) rfl dX2_down_68 ?_
          refine lv_aload_n hx hb dX2_down_71 rfl (lv_at hl 0 rfl) ?_
          refine gf_X2_135 C hw hm.1 (v := .int (nI n)) (by rw [← hk]; rfl) dX2_down_72 ?_
          refine lv_iload_n hx hb dX2_down_75 rfl (lv_at hl 3 rfl) ?_
          refine mo_ast C hw hm 17 (by decide) (by decide) (ar 17) rfl n rfl (show n < 20 by omega) dX2_down_76 (fun G6 H locs hm hw => ?_)
          refine lv_aload_n hx hb dX2_down_77 rfl (lv_at hl 0 rfl) ?_
          refine lv_dup hx hb dX2_down_78 rfl ?_
          refine gf_X2_135 C hw hm.1 (v := .int (nI n)) (by rw [← hk]; rfl) dX2_down_79 ?_
          refine lv_iconst (v := 1) hx hb dX2_down_82 (by decide) ?_
          refine tf_iaddN hx hb n 1 rfl rfl dX2_down_83 ?_
          refine pf_X2_135 C hw hm.1 (nI (n + 1)) (Nat.le_of_ble_eq_true rfl) dX2_down_84 (mo_put hm 14 (by decide) (fun G7 H locs hm hw => ?_))
          refine lv_aload_n hx hb dX2_down_87 rfl (lv_at hl 0 rfl) ?_
          refine gf_X2_135 C hw hm.1 (v := .int (nI (n + 1))) rfl dX2_down_88 ?_
          exact tf_reti C hw hr hlk dX2_down_91 (by first | exact Nat.le_of_ble_eq_true rfl | omega) (by first | exact Nat.le_of_ble_eq_true rfl | omega) (by refine ⟨_, _, ?_, hm⟩; simp [pm_down, pm_three, c5, c18, c29, c41])
        · refine lv_bipush (v := (-4)) hx hb dX2_down_44 (by decide) ?_
          exact tf_reti C hw hr hlk dX2_down_46 (by first | exact Nat.le_of_ble_eq_true rfl | omega) (by first | exact Nat.le_of_ble_eq_true rfl | omega) (by refine ⟨_, _, ?_, hm⟩; simp [pm_down, pm_three, c5, c18, c29, c41])
      · replace c29 := pt_b0 c29
        refine lv_bipush (v := (-2)) hx hb dX2_down_32 (by decide) ?_
        exact tf_reti C hw hr hlk dX2_down_34 (by first | exact Nat.le_of_ble_eq_true rfl | omega) (by first | exact Nat.le_of_ble_eq_true rfl | omega) (by refine ⟨_, _, ?_, hm⟩; simp [pm_down, pm_three, c5, c18, c29])
  · replace c5 := pt_b0 c5
    refine lv_iconst (v := (-1)) hx hb dX2_down_8 (by decide) ?_
    exact tf_reti C hw hr hlk dX2_down_9 (by first | exact Nat.le_of_ble_eq_true rfl | omega) (by first | exact Nat.le_of_ble_eq_true rfl | omega) (by refine ⟨_, _, ?_, hm⟩; simp [pm_down, pm_three, c5])
