/-! MODULE TankFieldModel, part 4: what was built: events, fronts -/
set_option maxRecDepth 100000
/-- the reference's numbers: nT tanks, nh hits, nc clocks, nd downs, ne events kept, nk members kept; hT: a hit's tank, kf: where an event begins, kh: a member's hit -/
def mo_I (iv : Nat → Int32) (ar : Nat → Nat → Int32) (nT nh nc nd ne nk : Nat) (hT kf kh : Nat → Nat) : Prop :=
  iv 2 = nI nT ∧ nT ≤ 30 ∧ iv 5 = nI nh ∧ nh ≤ 240 ∧ (∀ h, h < nh → ar 6 h = nI (hT h) ∧ hT h < nT) ∧ iv 10 = nI nc ∧ nc ≤ 20 ∧ iv 14 = nI nd ∧ nd ≤ 20 ∧ iv 30 = nI ne ∧ ne ≤ 240 ∧ iv 31 = nI nk ∧ nk ≤ 240 ∧ (∀ e, e ≤ ne → ar 32 e = nI (kf e)) ∧ kf 0 = 0 ∧ kf ne = nk ∧ (∀ e, e < ne → kf e < kf (e + 1)) ∧ ∀ k, k < nk → ar 33 k = nI (kh k) ∧ kh k < nh
theorem mo_mono {kf : Nat → Nat} {ne : Nat} (h : ∀ e, e < ne → kf e < kf (e + 1)) : ∀ d e, e + d ≤ ne → kf e ≤ kf (e + d) := by
  intro d
  induction d with
  | zero => intro e _; exact Nat.le_refl _
  | succ d ih =>
    intro e he
    have h1 := ih e (by omega)
    have h2 := h (e + d) (by omega)
    have h3 : kf (e + (d + 1)) = kf (e + d + 1) := rfl
    omega
theorem mo_le {kf : Nat → Nat} {ne : Nat} (h : ∀ e, e < ne → kf e < kf (e + 1)) {e : Nat} (he : e ≤ ne) : kf e ≤ kf ne := by
  have := mo_mono h (ne - e) e (by omega)
  rwa [show e + (ne - e) = ne by omega] at this
/-- the least (the greatest) of j + 1 numbers from a on -/
def pm_leastL (t : Nat → Int32) (a : Nat) : Nat → Int32
  | 0 => t a
  | j + 1 => if pm_leastL t a j ≤ t (a + j) then pm_leastL t a j else t (a + j)
def pm_mostL (t : Nat → Int32) (a : Nat) : Nat → Int32
  | 0 => t a
  | j + 1 => if t (a + j) ≤ pm_mostL t a j then pm_mostL t a j else t (a + j)
def pm_sureL (ar : Nat → Nat → Int32) (kh : Nat → Nat) (a : Nat) : Nat → Int32
  | 0 => 1
  | j + 1 => if pm_kind ar (kh (a + j)) < 2 then pm_sureL ar kh a j else 0
def pm_sum (g : Nat → Int64) : Nat → Int64
  | 0 => 0
  | j + 1 => pm_sum g j + g j
def pm_det (a b c d e f g h i : Int64) : Int64 := a * (e * i - f * h) - b * (d * i - f * g) + c * (d * h - e * g)
/-- a front out of the members' places x y and times t: D, C, U, V -/
def pm_front (x y t : Nat → Int64) (m k : Nat) : Int64 := match k with
  | 0 => pm_det (pm_sum (fun _ => 1) m) (pm_sum x m) (pm_sum y m) (pm_sum x m) (pm_sum (fun j => x j * x j) m) (pm_sum (fun j => x j * y j) m) (pm_sum y m) (pm_sum (fun j => x j * y j) m) (pm_sum (fun j => y j * y j) m)
  | 1 => pm_det (pm_sum t m) (pm_sum x m) (pm_sum y m) (pm_sum (fun j => t j * x j) m) (pm_sum (fun j => x j * x j) m) (pm_sum (fun j => x j * y j) m) (pm_sum (fun j => t j * y j) m) (pm_sum (fun j => x j * y j) m) (pm_sum (fun j => y j * y j) m)
  | 2 => pm_det (pm_sum (fun _ => 1) m) (pm_sum t m) (pm_sum y m) (pm_sum x m) (pm_sum (fun j => t j * x j) m) (pm_sum (fun j => x j * y j) m) (pm_sum y m) (pm_sum (fun j => t j * y j) m) (pm_sum (fun j => y j * y j) m)
  | _ => pm_det (pm_sum (fun _ => 1) m) (pm_sum x m) (pm_sum t m) (pm_sum x m) (pm_sum (fun j => x j * x j) m) (pm_sum (fun j => t j * x j) m) (pm_sum y m) (pm_sum (fun j => x j * y j) m) (pm_sum (fun j => t j * y j) m)

set_option maxHeartbeats 4000000 in
set_option maxRecDepth 100000 in
theorem metX2_isEvent {l : Launch} {S0 : State} {D : va_G} {dA : Nat → ClassId} (hB : tf_B S0 D dA) {sz : Nat} {G : tf_Pic} {mm : Nat} {ad : Nat → Nat} {iv : Nat → Int32} {ar : Nat → Nat → Int32} {fr : Nat → Int64} (hm : mo_W dA mm ad iv ar fr G) (t : Int32) : Met l yX2_isEvent (ws_ yX2_isEvent cX2_isEvent 2 (some .boolean)) (tf_rm 1 0 0) (tf_Pc S0 D sz G [.ref mm, .int t]) (tf_Qi S0 D sz G (fun r G1 => r = pt_b (pm_of t (iv 30)) ∧ G1 = G)) 0 0 (tf_A G sz) := by
  refine Met.ofW (cc := cX2_isEvent) (maxL := 2) (ret := (some .boolean)) (by decide) rfl ?_
  intro p e s m args below meth c s₁ B hml hv
  obtain ⟨C, hw, hr, hlk, hin, hargs⟩ := tf_enter hB B hml hv
  subst hargs
  have C : tf_C p s m ([.ref mm, .int t] : List Value).toArray c cX2_isEvent 2 RX2 S0 D dA := C
  have hx := C.hx
  have hb := C.hb
  change W p l e (tf_rm 1 0 0) s m ([.ref mm, .int t] : List Value).toArray below meth c s.heap [] 0 0 (MQ below (tf_Qi S0 D sz G (fun r G1 => r = pt_b (pm_of t (iv 30)) ∧ G1 = G)) ([.ref mm, .int t] : List Value).toArray s 0 0 (tf_A G sz)) (entryFrame m ([.ref mm, .int t] : List Value).toArray 2)
  refine tf_start [.ref mm, .int t] (Nat.le_of_ble_eq_true rfl) (fun ls hl => ?_)
  have hl : lv_has ls 2 [(0, .ref mm), (1, .int t)] := hl
  refine lv_iload_n hx hb dX2_isEvent_0 rfl (lv_at hl 1 rfl) ?_
  refine lv_if_lt (tgt := 16) hx hb dX2_isEvent_1 (by decide) (fun c1 => ?_) (fun c1 => ?_)
  · refine lv_iconst (v := 0) hx hb dX2_isEvent_16 (by decide) ?_
    exact tf_retz C hw hr hlk dX2_isEvent_17 (by first | exact Nat.le_of_ble_eq_true rfl | omega) (by first | exact Nat.le_of_ble_eq_true rfl | omega) (Or.inl rfl) (by rw [pm_of_lo c1]; exact ⟨rfl, rfl⟩)
  · refine lv_iload_n hx hb dX2_isEvent_4 rfl (lv_at hl 1 rfl) ?_
    refine lv_aload_n hx hb dX2_isEvent_5 rfl (lv_at hl 0 rfl) ?_
    refine gf_X2_160 C hw hm.1 (v := .int (iv 30)) rfl dX2_isEvent_6 ?_
    refine lv_icmp_ge (tgt := 16) hx hb dX2_isEvent_9 (by decide) (fun c9 => ?_) (fun c9 => ?_)
    · refine lv_iconst (v := 0) hx hb dX2_isEvent_16 (by decide) ?_
      exact tf_retz C hw hr hlk dX2_isEvent_17 (by first | exact Nat.le_of_ble_eq_true rfl | omega) (by first | exact Nat.le_of_ble_eq_true rfl | omega) (Or.inl rfl) (by rw [pm_of_hi c9]; exact ⟨rfl, rfl⟩)
    · refine lv_iconst (v := 1) hx hb dX2_isEvent_12 (by decide) ?_
      refine lv_goto (tgt := 17) hx hb dX2_isEvent_13 (by decide) ?_
      exact tf_retz C hw hr hlk dX2_isEvent_17 (by first | exact Nat.le_of_ble_eq_true rfl | omega) (by first | exact Nat.le_of_ble_eq_true rfl | omega) (Or.inr rfl) (by rw [pm_of_t c1 c9]; exact ⟨rfl, rfl⟩)

set_option maxHeartbeats 4000000 in
set_option maxRecDepth 100000 in
theorem metX2_leastTime {l : Launch} {S0 : State} {D : va_G} {dA : Nat → ClassId} (hB : tf_B S0 D dA) {sz : Nat} {G : tf_Pic} {mm : Nat} {ad : Nat → Nat} {iv : Nat → Int32} {ar : Nat → Nat → Int32} {fr : Nat → Int64} (hm : mo_W dA mm ad iv ar fr G) {nT nh nc nd ne nk : Nat} {hT kf kh : Nat → Nat} (hI : mo_I iv ar nT nh nc nd ne nk hT kf kh) {E : Nat} (hE : E < ne) : Met l yX2_leastTime (ws_ yX2_leastTime cX2_leastTime 4 (some .int)) (tf_rm 1 0 0) (tf_Pc S0 D sz G [.ref mm, .int (nI E)]) (tf_Qi S0 D sz G (fun r G1 => r = pm_leastL (ar 34) (kf E) (kf (E + 1) - kf E) ∧ G1 = G)) 0 0 (tf_A G sz) := by
  refine Met.ofW (cc := cX2_leastTime) (maxL := 4) (ret := (some .int)) (by decide) rfl ?_
  intro p e s m args below meth c s₁ B hml hv
  obtain ⟨C, hw, hr, hlk, hin, hargs⟩ := tf_enter hB B hml hv
  subst hargs
  have C : tf_C p s m ([.ref mm, .int (nI E)] : List Value).toArray c cX2_leastTime 4 RX2 S0 D dA := C
  have hx := C.hx
  have hb := C.hb
  change W p l e (tf_rm 1 0 0) s m ([.ref mm, .int (nI E)] : List Value).toArray below meth c s.heap [] 0 0 (MQ below (tf_Qi S0 D sz G (fun r G1 => r = pm_leastL (ar 34) (kf E) (kf (E + 1) - kf E) ∧ G1 = G)) ([.ref mm, .int (nI E)] : List Value).toArray s 0 0 (tf_A G sz)) (entryFrame m ([.ref mm, .int (nI E)] : List Value).toArray 4)
  have hI0 := hI
  obtain ⟨hk2, hnT, hk5, hnh, h6, hk10, hnc, hk14, hnd, hk30, hne, hk31, hnk, h32, hkf0, hkfn, hkfs, h33⟩ := hI
  have hE1 := hkfs E hE
  have hE2 := mo_le hkfs (e := E + 1) hE
  refine tf_start [.ref mm, .int (nI E)] (Nat.le_of_ble_eq_true rfl) (fun ls hl => ?_)
  have hl : lv_has ls 4 [(0, .ref mm), (1, .int (nI E))] := hl
  refine lv_aload_n hx hb dX2_leastTime_0 rfl (lv_at hl 0 rfl) ?_
  refine gf_X2_82 C hw hm.1 (v := .ref (ad 34)) rfl dX2_leastTime_1 ?_
  refine lv_aload_n hx hb dX2_leastTime_4 rfl (lv_at hl 0 rfl) ?_
  refine gf_X2_76 C hw hm.1 (v := .ref (ad 32)) rfl dX2_leastTime_5 ?_
  refine lv_iload_n hx hb dX2_leastTime_8 rfl (lv_at hl 1 rfl) ?_
  refine mo_ald (v := nI (kf E)) C hw hm 32 (by decide) (by decide) E rfl (show E < 241 by omega) (h32 E (by omega)) dX2_leastTime_9 ?_
  refine mo_ald (v := ar 34 (kf E)) C hw hm 34 (by decide) (by decide) (kf E) rfl (show kf E < 240 by omega) rfl dX2_leastTime_10 ?_
  refine lv_istore_n (lv' := [(2, .int (ar 34 (kf E))), (0, .ref mm), (1, .int (nI E))]) hx hb dX2_leastTime_11 rfl hl (by decide) rfl (fun ls hl => ?_)
  refine lv_aload_n hx hb dX2_leastTime_12 rfl (lv_at hl 1 rfl) ?_
  refine gf_X2_76 C hw hm.1 (v := .ref (ad 32)) rfl dX2_leastTime_13 ?_
  refine lv_iload_n hx hb dX2_leastTime_16 rfl (lv_at hl 2 rfl) ?_
  refine mo_ald (v := nI (kf E)) C hw hm 32 (by decide) (by decide) E rfl (show E < 241 by omega) (h32 E (by omega)) dX2_leastTime_17 ?_
  refine lv_istore_n (lv' := [(3, .int (nI (kf E))), (2, .int (ar 34 (kf E))), (0, .ref mm), (1, .int (nI E))]) hx hb dX2_leastTime_18 rfl hl (by decide) rfl (fun ls hl => ?_)
  have b19 : ∀ (fuel : Nat) (j : Nat), kf (E + 1) - kf E - j < fuel → (kf E + j ≤ kf (E + 1)) → ∀ (H : Heap) (locs : List Loc), tf_Wd S0 D (tf_A G sz) s.heap G H locs → ∀ (ls : Array Slot), lv_has ls 4 [(3, .int (nI (kf E + j))), (2, .int (pm_leastL (ar 34) (kf E) j)), (0, .ref mm), (1, .int (nI E))] → W p l e (tf_rm 1 0 0) s m ([.ref mm, .int (nI E)] : List Value).toArray below meth c H locs 0 0 (MQ below (tf_Qi S0 D sz G (fun r G1 => r = pm_leastL (ar 34) (kf E) (kf (E + 1) - kf E) ∧ G1 = G)) ([.ref mm, .int (nI E)] : List Value).toArray s 0 0 (tf_A G sz)) (F0 m 19 ls []) := by
    intro fuel19
    induction fuel19 with
    | zero => intro j hfu19; exact absurd hfu19 (Nat.not_lt_zero _)
    | succ fuel19 ih19 =>
      intro j hfu19 hj H locs hw ls hl
      refine lv_iload_n hx hb dX2_leastTime_19 rfl (lv_at hl 0 rfl) ?_
      refine lv_aload_n hx hb dX2_leastTime_20 rfl (lv_at hl 2 rfl) ?_
      refine gf_X2_76 C hw hm.1 (v := .ref (ad 32)) rfl dX2_leastTime_21 ?_
      refine lv_iload_n hx hb dX2_leastTime_24 rfl (lv_at hl 3 rfl) ?_
      refine lv_iconst (v := 1) hx hb dX2_leastTime_25 (by decide) ?_
      refine tf_iaddN hx hb E 1 rfl rfl dX2_leastTime_26 ?_
      refine mo_ald (v := nI (kf (E + 1))) C hw hm 32 (by decide) (by decide) (E + 1) rfl (show E + 1 < 241 by omega) (h32 (E + 1) (by omega)) dX2_leastTime_27 ?_
      refine tf_icmp_geN hx hb (kf E + j) (kf (E + 1)) rfl rfl (tgt := 58) dX2_leastTime_28 (by decide) (by omega) (by omega) (fun c28 => ?_) (fun c28 => ?_)
      · refine lv_iload_n hx hb dX2_leastTime_58 rfl (lv_at hl 1 rfl) ?_
        exact tf_reti C hw hr hlk dX2_leastTime_59 (by first | exact Nat.le_of_ble_eq_true rfl | omega) (by first | exact Nat.le_of_ble_eq_true rfl | omega) (by refine ⟨?_, rfl⟩; rw [show kf (E + 1) - kf E = j by omega])
      · refine lv_aload_n hx hb dX2_leastTime_31 rfl (lv_at hl 2 rfl) ?_
        refine gf_X2_82 C hw hm.1 (v := .ref (ad 34)) rfl dX2_leastTime_32 ?_
        refine lv_iload_n hx hb dX2_leastTime_35 rfl (lv_at hl 0 rfl) ?_
        refine mo_ald (v := ar 34 (kf E + j)) C hw hm 34 (by decide) (by decide) (kf E + j) rfl (show kf E + j < 240 by omega) rfl dX2_leastTime_36 ?_
        refine lv_iload_n hx hb dX2_leastTime_37 rfl (lv_at hl 1 rfl) ?_
        refine lv_icmp_ge (tgt := 50) hx hb dX2_leastTime_38 (by decide) (fun c38 => ?_) (fun c38 => ?_)
        · refine lv_iload_n hx hb dX2_leastTime_50 rfl (lv_at hl 1 rfl) ?_
          refine lv_istore_n (lv' := [(2, .int (pm_leastL (ar 34) (kf E) j)), (3, .int (nI (kf E + j))), (0, .ref mm), (1, .int (nI E))]) hx hb dX2_leastTime_51 rfl hl (by decide) rfl (fun ls hl => ?_)
          rw [show (pm_leastL (ar 34) (kf E) j : Int32) = pm_leastL (ar 34) (kf E) (j + 1) by simp only [pm_leastL, if_pos c38]] at hl
          refine lv_iinc (v := nI (kf E + j + 1)) (lv' := [(3, .int (nI (kf E + j + 1))), (2, .int (pm_leastL (ar 34) (kf E) (j + 1))), (0, .ref mm), (1, .int (nI E))]) hx hb dX2_leastTime_52 hl (k := 1) rfl (nI_1 _) (by decide) rfl (fun ls hl => ?_)
          refine lv_goto (tgt := 19) hx hb dX2_leastTime_55 (by decide) ?_
          exact ih19 (j + 1) (by omega) (by omega) _ _ hw ls hl
        · refine lv_aload_n hx hb dX2_leastTime_41 rfl (lv_at hl 2 rfl) ?_
          refine gf_X2_82 C hw hm.1 (v := .ref (ad 34)) rfl dX2_leastTime_42 ?_
          refine lv_iload_n hx hb dX2_leastTime_45 rfl (lv_at hl 0 rfl) ?_
          refine mo_ald (v := ar 34 (kf E + j)) C hw hm 34 (by decide) (by decide) (kf E + j) rfl (show kf E + j < 240 by omega) rfl dX2_leastTime_46 ?_
          refine lv_goto (tgt := 51) hx hb dX2_leastTime_47 (by decide) ?_
          refine lv_istore_n (lv' := [(2, .int (ar 34 (kf E + j))), (3, .int (nI (kf E + j))), (0, .ref mm), (1, .int (nI E))]) hx hb dX2_leastTime_51 rfl hl (by decide) rfl (fun ls hl => ?_)
          rw [show (ar 34 (kf E + j) : Int32) = pm_leastL (ar 34) (kf E) (j + 1) by simp only [pm_leastL, if_neg c38]] at hl
          refine lv_iinc (v := nI (kf E + j + 1)) (lv' := [(3, .int (nI (kf E + j + 1))), (2, .int (pm_leastL (ar 34) (kf E) (j + 1))), (0, .ref mm), (1, .int (nI E))]) hx hb dX2_leastTime_52 hl (k := 1) rfl (nI_1 _) (by decide) rfl (fun ls hl => ?_)
          refine lv_goto (tgt := 19) hx hb dX2_leastTime_55 (by decide) ?_
          exact ih19 (j + 1) (by omega) (by omega) _ _ hw ls hl
  exact b19 (kf (E + 1) - kf E + 1) 0 (by omega) (by omega) _ _ hw ls hl

def pm_event (ar : Nat → Nat → Int32) (kf kh : Nat → Nat) (ne : Nat) (e what : Int32) : Int32 := if pm_of e (nI ne) then (if what = 0 then nI (kf (e.toNatClampNeg + 1) - kf e.toNatClampNeg) else if what = 1 then pm_leastL (ar 34) (kf e.toNatClampNeg) (kf (e.toNatClampNeg + 1) - kf e.toNatClampNeg) else if what = 2 then pm_mostL (ar 34) (kf e.toNatClampNeg) (kf (e.toNatClampNeg + 1) - kf e.toNatClampNeg) else if what = 3 then ar 35 e.toNatClampNeg else if what = 4 then pm_sureL ar kh (kf e.toNatClampNeg) (kf (e.toNatClampNeg + 1) - kf e.toNatClampNeg) else -2) else -1

set_option maxHeartbeats 4000000 in
set_option maxRecDepth 100000 in
theorem metX2_event {l : Launch} {S0 : State} {D : va_G} {dA : Nat → ClassId} (hB : tf_B S0 D dA) {sz : Nat} {G : tf_Pic} {mm : Nat} {ad : Nat → Nat} {iv : Nat → Int32} {ar : Nat → Nat → Int32} {fr : Nat → Int64} (hm : mo_W dA mm ad iv ar fr G) {nT nh nc nd ne nk : Nat} {hT kf kh : Nat → Nat} (hI : mo_I iv ar nT nh nc nd ne nk hT kf kh) (e0 what : Int32) : Met l yX2_event (ws_ yX2_event cX2_event 6 (some .int)) (tf_rm 2 0 0) (tf_Pc S0 D sz G [.ref mm, .int e0, .int what]) (tf_Qi S0 D sz G (fun r G1 => r = pm_event ar kf kh ne e0 what ∧ G1 = G)) 0 0 (tf_A G sz) := by
  refine Met.ofW (cc := cX2_event) (maxL := 6) (ret := (some .int)) (by decide) rfl ?_
  intro p e s m args below meth c s₁ B hml hv
  obtain ⟨C, hw, hr, hlk, hin, hargs⟩ := tf_enter hB B hml hv
  subst hargs
  have C : tf_C p s m ([.ref mm, .int e0, .int what] : List Value).toArray c cX2_event 6 RX2 S0 D dA := C
  have hx := C.hx
  have hb := C.hb
  change W p l e (tf_rm 2 0 0) s m ([.ref mm, .int e0, .int what] : List Value).toArray below meth c s.heap [] 0 0 (MQ below (tf_Qi S0 D sz G (fun r G1 => r = pm_event ar kf kh ne e0 what ∧ G1 = G)) ([.ref mm, .int e0, .int what] : List Value).toArray s 0 0 (tf_A G sz)) (entryFrame m ([.ref mm, .int e0, .int what] : List Value).toArray 6)
  have hI0 := hI
  obtain ⟨hk2, hnT, hk5, hnh, h6, hk10, hnc, hk14, hnd, hk30, hne, hk31, hnk, h32, hkf0, hkfn, hkfs, h33⟩ := hI
  refine tf_start [.ref mm, .int e0, .int what] (Nat.le_of_ble_eq_true rfl) (fun ls hl => ?_)
  have hl : lv_has ls 6 [(0, .ref mm), (1, .int e0), (2, .int what)] := hl
  refine lv_aload_n hx hb dX2_event_0 rfl (lv_at hl 0 rfl) ?_
  refine lv_iload_n hx hb dX2_event_1 rfl (lv_at hl 1 rfl) ?_
  refine tf_goi (tf_V (n := 1) C hw hm.1 rfl [.int e0] (metX2_isEvent hB hm e0) (lw_V q1168 q1170 qs35 q45 q1171) rfl ⟨by decide, by decide, by decide +kernel⟩ ⟨rfl, rfl, Nat.le_of_ble_eq_true rfl, Nat.le_of_ble_eq_true rfl, (by first | exact Nat.le_of_ble_eq_true rfl | (show _ ≤ 0; omega)), (by first | exact Nat.le_of_ble_eq_true rfl | (show _ ≤ 0; omega))⟩ rfl hl rfl (Nat.le_of_ble_eq_true rfl) dX2_event_2) hw (fun r1 G1 H locs hp1 hw => ?_)
  obtain ⟨hre, hGe⟩ := hp1
  have hre : r1 = pt_b (pm_of e0 (iv 30)) := hre
  obtain rfl := hre.symm
  obtain rfl := hGe.symm
  refine lv_if_ne (tgt := 10) hx hb dX2_event_5 (by decide) (fun c5 => ?_) (fun c5 => ?_)
  · replace c5 := pt_b1 c5
    have c_e := c5
    rw [hk30] at c_e
    obtain ⟨E, hE, hEe, hEc⟩ := pm_clof (by omega) c_e
    rw [hEe] at hl
    have hE1 := hkfs E hE
    have hE2 := mo_le hkfs (e := E + 1) hE
    refine lv_iload_n hx hb dX2_event_10 rfl (lv_at hl 2 rfl) ?_
    rcases tf_sw5 what with c11 | c11 | c11 | c11 | c11 | c11
    · refine lv_tableIn (tgt := 44) hx hb dX2_event_11 (by rw [c11]; decide) (by rw [c11]; decide) (off := 33) (by rw [c11]; rfl) (by decide) ?_
      refine lv_aload_n hx hb dX2_event_44 rfl (lv_at hl 0 rfl) ?_
      refine gf_X2_76 C hw hm.1 (v := .ref (ad 32)) rfl dX2_event_45 ?_
      refine lv_iload_n hx hb dX2_event_48 rfl (lv_at hl 1 rfl) ?_
      refine lv_iconst (v := 1) hx hb dX2_event_49 (by decide) ?_
      refine tf_iaddN hx hb E 1 rfl rfl dX2_event_50 ?_
      refine mo_ald (v := nI (kf (E + 1))) C hw hm 32 (by decide) (by decide) (E + 1) rfl (show E + 1 < 241 by omega) (h32 (E + 1) (by omega)) dX2_event_51 ?_
      refine lv_aload_n hx hb dX2_event_52 rfl (lv_at hl 0 rfl) ?_
      refine gf_X2_76 C hw hm.1 (v := .ref (ad 32)) rfl dX2_event_53 ?_
      refine lv_iload_n hx hb dX2_event_56 rfl (lv_at hl 1 rfl) ?_
      refine mo_ald (v := nI (kf E)) C hw hm 32 (by decide) (by decide) E rfl (show E < 241 by omega) (h32 E (by omega)) dX2_event_57 ?_
      refine tf_isubN hx hb (kf (E + 1)) (kf E) rfl rfl (by omega) dX2_event_58 ?_
      refine tf_reti C hw hr hlk dX2_event_59 (by first | exact Nat.le_of_ble_eq_true rfl | omega) (by first | exact Nat.le_of_ble_eq_true rfl | omega) ?_
      refine ⟨?_, rfl⟩
      simp only [pm_event, c_e, hEc, if_true]
      rw [c11]
      rfl
    · refine lv_tableIn (tgt := 60) hx hb dX2_event_11 (by rw [c11]; decide) (by rw [c11]; decide) (off := 49) (by rw [c11]; rfl) (by decide) ?_
      refine lv_aload_n hx hb dX2_event_60 rfl (lv_at hl 0 rfl) ?_
      refine lv_iload_n hx hb dX2_event_61 rfl (lv_at hl 1 rfl) ?_
      refine tf_goi (tf_V (n := 1) C hw hm.1 rfl [.int (nI E)] (metX2_leastTime hB hm hI0 hE) (lw_V q1180 q1182 qs36 q45 q1183) rfl ⟨by decide, by decide, by decide +kernel⟩ ⟨rfl, rfl, Nat.le_of_ble_eq_true rfl, Nat.le_of_ble_eq_true rfl, (by first | exact Nat.le_of_ble_eq_true rfl | (show _ ≤ 0; omega)), (by first | exact Nat.le_of_ble_eq_true rfl | (show _ ≤ 0; omega))⟩ rfl hl rfl (Nat.le_of_ble_eq_true rfl) dX2_event_62) hw (fun r2 G2 H locs hp2 hw => ?_)
      obtain ⟨hre, hGe⟩ := hp2
      have hre : r2 = pm_leastL (ar 34) (kf E) (kf (E + 1) - kf E) := hre
      obtain rfl := hre.symm
      obtain rfl := hGe.symm
      refine tf_reti C hw hr hlk dX2_event_65 (by first | exact Nat.le_of_ble_eq_true rfl | omega) (by first | exact Nat.le_of_ble_eq_true rfl | omega) ?_
      refine ⟨?_, rfl⟩
      simp only [pm_event, c_e, hEc, if_true]
      rw [c11]
      rfl
    · refine lv_tableIn (tgt := 66) hx hb dX2_event_11 (by rw [c11]; decide) (by rw [c11]; decide) (off := 55) (by rw [c11]; rfl) (by decide) ?_
      refine lv_aload_n hx hb dX2_event_66 rfl (lv_at hl 0 rfl) ?_
      refine gf_X2_82 C hw hm.1 (v := .ref (ad 34)) rfl dX2_event_67 ?_
      refine lv_aload_n hx hb dX2_event_70 rfl (lv_at hl 0 rfl) ?_
      refine gf_X2_76 C hw hm.1 (v := .ref (ad 32)) rfl dX2_event_71 ?_
      refine lv_iload_n hx hb dX2_event_74 rfl (lv_at hl 1 rfl) ?_
      refine mo_ald (v := nI (kf E)) C hw hm 32 (by decide) (by decide) E rfl (show E < 241 by omega) (h32 E (by omega)) dX2_event_75 ?_
      refine mo_ald (v := ar 34 (kf E)) C hw hm 34 (by decide) (by decide) (kf E) rfl (show kf E < 240 by omega) rfl dX2_event_76 ?_
      refine lv_istore_n (lv' := [(3, .int (ar 34 (kf E))), (0, .ref mm), (1, .int (nI E)), (2, .int what)]) hx hb dX2_event_77 rfl hl (by decide) rfl (fun ls hl => ?_)
      refine lv_aload_n hx hb dX2_event_78 rfl (lv_at hl 1 rfl) ?_
      refine gf_X2_76 C hw hm.1 (v := .ref (ad 32)) rfl dX2_event_79 ?_
      refine lv_iload_n hx hb dX2_event_82 rfl (lv_at hl 2 rfl) ?_
      refine mo_ald (v := nI (kf E)) C hw hm 32 (by decide) (by decide) E rfl (show E < 241 by omega) (h32 E (by omega)) dX2_event_83 ?_
      refine lv_istore (lv' := [(4, .int (nI (kf E))), (3, .int (ar 34 (kf E))), (0, .ref mm), (1, .int (nI E)), (2, .int what)]) hx hb dX2_event_84 hl (by decide) rfl (fun ls hl => ?_)
      have b86 : ∀ (fuel : Nat) (j : Nat), kf (E + 1) - kf E - j < fuel → (kf E + j ≤ kf (E + 1)) → ∀ (H : Heap) (locs : List Loc), tf_Wd S0 D (tf_A G sz) s.heap G H locs → ∀ (ls : Array Slot), lv_has ls 6 [(4, .int (nI (kf E + j))), (3, .int (pm_mostL (ar 34) (kf E) j)), (0, .ref mm), (1, .int (nI E)), (2, .int what)] → W p l e (tf_rm 2 0 0) s m ([.ref mm, .int e0, .int what] : List Value).toArray below meth c H locs 0 0 (MQ below (tf_Qi S0 D sz G (fun r G1 => r = pm_event ar kf kh ne e0 what ∧ G1 = G)) ([.ref mm, .int e0, .int what] : List Value).toArray s 0 0 (tf_A G sz)) (F0 m 86 ls []) := by
        intro fuel86
        induction fuel86 with
        | zero => intro j hfu86; exact absurd hfu86 (Nat.not_lt_zero _)
        | succ fuel86 ih86 =>
          intro j hfu86 hj H locs hw ls hl
          refine lv_iload hx hb dX2_event_86 (lv_at hl 0 rfl) ?_
          refine lv_aload_n hx hb dX2_event_88 rfl (lv_at hl 2 rfl) ?_
          refine gf_X2_76 C hw hm.1 (v := .ref (ad 32)) rfl dX2_event_89 ?_
          refine lv_iload_n hx hb dX2_event_92 rfl (lv_at hl 3 rfl) ?_
          refine lv_iconst (v := 1) hx hb dX2_event_93 (by decide) ?_
          refine tf_iaddN hx hb E 1 rfl rfl dX2_event_94 ?_
          refine mo_ald (v := nI (kf (E + 1))) C hw hm 32 (by decide) (by decide) (E + 1) rfl (show E + 1 < 241 by omega) (h32 (E + 1) (by omega)) dX2_event_95 ?_
          refine tf_icmp_geN hx hb (kf E + j) (kf (E + 1)) rfl rfl (tgt := 128) dX2_event_96 (by decide) (by omega) (by omega) (fun c96 => ?_) (fun c96 => ?_)
          · refine lv_iload_n hx hb dX2_event_128 rfl (lv_at hl 1 rfl) ?_
            refine tf_reti C hw hr hlk dX2_event_129 (by first | exact Nat.le_of_ble_eq_true rfl | omega) (by first | exact Nat.le_of_ble_eq_true rfl | omega) ?_
            refine ⟨?_, rfl⟩
            simp only [pm_event, c_e, hEc, if_true]
            rw [show kf (E + 1) - kf E = j by omega]
            rw [c11]
            rfl
          · refine lv_aload_n hx hb dX2_event_99 rfl (lv_at hl 2 rfl) ?_
            refine gf_X2_82 C hw hm.1 (v := .ref (ad 34)) rfl dX2_event_100 ?_
            refine lv_iload hx hb dX2_event_103 (lv_at hl 0 rfl) ?_
            refine mo_ald (v := ar 34 (kf E + j)) C hw hm 34 (by decide) (by decide) (kf E + j) rfl (show kf E + j < 240 by omega) rfl dX2_event_105 ?_
            refine lv_iload_n hx hb dX2_event_106 rfl (lv_at hl 1 rfl) ?_
            refine lv_icmp_le (tgt := 120) hx hb dX2_event_107 (by decide) (fun c107 => ?_) (fun c107 => ?_)
            · refine lv_iload_n hx hb dX2_event_120 rfl (lv_at hl 1 rfl) ?_
              refine lv_istore_n (lv' := [(3, .int (pm_mostL (ar 34) (kf E) j)), (4, .int (nI (kf E + j))), (0, .ref mm), (1, .int (nI E)), (2, .int what)]) hx hb dX2_event_121 rfl hl (by decide) rfl (fun ls hl => ?_)
              rw [show (pm_mostL (ar 34) (kf E) j : Int32) = pm_mostL (ar 34) (kf E) (j + 1) by simp only [pm_mostL, if_pos c107]] at hl
              refine lv_iinc (v := nI (kf E + j + 1)) (lv' := [(4, .int (nI (kf E + j + 1))), (3, .int (pm_mostL (ar 34) (kf E) (j + 1))), (0, .ref mm), (1, .int (nI E)), (2, .int what)]) hx hb dX2_event_122 hl (k := 1) rfl (nI_1 _) (by decide) rfl (fun ls hl => ?_)
              refine lv_goto (tgt := 86) hx hb dX2_event_125 (by decide) ?_
              exact ih86 (j + 1) (by omega) (by omega) _ _ hw ls hl
            · refine lv_aload_n hx hb dX2_event_110 rfl (lv_at hl 2 rfl) ?_
              refine gf_X2_82 C hw hm.1 (v := .ref (ad 34)) rfl dX2_event_111 ?_
              refine lv_iload hx hb dX2_event_114 (lv_at hl 0 rfl) ?_
              refine mo_ald (v := ar 34 (kf E + j)) C hw hm 34 (by decide) (by decide) (kf E + j) rfl (show kf E + j < 240 by omega) rfl dX2_event_116 ?_
              refine lv_goto (tgt := 121) hx hb dX2_event_117 (by decide) ?_
              refine lv_istore_n (lv' := [(3, .int (ar 34 (kf E + j))), (4, .int (nI (kf E + j))), (0, .ref mm), (1, .int (nI E)), (2, .int what)]) hx hb dX2_event_121 rfl hl (by decide) rfl (fun ls hl => ?_)
              rw [show (ar 34 (kf E + j) : Int32) = pm_mostL (ar 34) (kf E) (j + 1) by simp only [pm_mostL, if_neg c107]] at hl
              refine lv_iinc (v := nI (kf E + j + 1)) (lv' := [(4, .int (nI (kf E + j + 1))), (3, .int (pm_mostL (ar 34) (kf E) (j + 1))), (0, .ref mm), (1, .int (nI E)), (2, .int what)]) hx hb dX2_event_122 hl (k := 1) rfl (nI_1 _) (by decide) rfl (fun ls hl => ?_)
              refine lv_goto (tgt := 86) hx hb dX2_event_125 (by decide) ?_
              exact ih86 (j + 1) (by omega) (by omega) _ _ hw ls hl
      exact b86 (kf (E + 1) - kf E + 1) 0 (by omega) (by omega) _ _ hw ls hl
    · refine lv_tableIn (tgt := 130) hx hb dX2_event_11 (by rw [c11]; decide) (by rw [c11]; decide) (off := 119) (by rw [c11]; rfl) (by decide) ?_
      refine lv_aload_n hx hb dX2_event_130 rfl (lv_at hl 0 rfl) ?_
      refine gf_X2_85 C hw hm.1 (v := .ref (ad 35)) rfl dX2_event_131 ?_
      refine lv_iload_n hx hb dX2_event_134 rfl (lv_at hl 1 rfl) ?_
      refine mo_ald (v := ar 35 E) C hw hm 35 (by decide) (by decide) E rfl (show E < 240 by omega) rfl dX2_event_135 ?_
      refine tf_reti C hw hr hlk dX2_event_136 (by first | exact Nat.le_of_ble_eq_true rfl | omega) (by first | exact Nat.le_of_ble_eq_true rfl | omega) ?_
      refine ⟨?_, rfl⟩
      simp only [pm_event, c_e, hEc, if_true]
      rw [c11]
      rfl
    · refine lv_tableIn (tgt := 137) hx hb dX2_event_11 (by rw [c11]; decide) (by rw [c11]; decide) (off := 126) (by rw [c11]; rfl) (by decide) ?_
      refine lv_iconst (v := 1) hx hb dX2_event_137 (by decide) ?_
      refine lv_istore (lv' := [(4, .int 1), (0, .ref mm), (1, .int (nI E)), (2, .int what)]) hx hb dX2_event_138 hl (by decide) rfl (fun ls hl => ?_)
      refine lv_aload_n hx hb dX2_event_140 rfl (lv_at hl 1 rfl) ?_
      refine gf_X2_76 C hw hm.1 (v := .ref (ad 32)) rfl dX2_event_141 ?_
      refine lv_iload_n hx hb dX2_event_144 rfl (lv_at hl 2 rfl) ?_
      refine mo_ald (v := nI (kf E)) C hw hm 32 (by decide) (by decide) E rfl (show E < 241 by omega) (h32 E (by omega)) dX2_event_145 ?_
      refine lv_istore (lv' := [(5, .int (nI (kf E))), (4, .int 1), (0, .ref mm), (1, .int (nI E)), (2, .int what)]) hx hb dX2_event_146 hl (by decide) rfl (fun ls hl => ?_)
      have b148 : ∀ (fuel : Nat) (j : Nat), kf (E + 1) - kf E - j < fuel → (kf E + j ≤ kf (E + 1)) → ∀ (H : Heap) (locs : List Loc), tf_Wd S0 D (tf_A G sz) s.heap G H locs → ∀ (ls : Array Slot), lv_has ls 6 [(5, .int (nI (kf E + j))), (4, .int (pm_sureL ar kh (kf E) j)), (0, .ref mm), (1, .int (nI E)), (2, .int what)] → W p l e (tf_rm 2 0 0) s m ([.ref mm, .int e0, .int what] : List Value).toArray below meth c H locs 0 0 (MQ below (tf_Qi S0 D sz G (fun r G1 => r = pm_event ar kf kh ne e0 what ∧ G1 = G)) ([.ref mm, .int e0, .int what] : List Value).toArray s 0 0 (tf_A G sz)) (F0 m 148 ls []) := by
        intro fuel148
        induction fuel148 with
        | zero => intro j hfu148; exact absurd hfu148 (Nat.not_lt_zero _)
        | succ fuel148 ih148 =>
          intro j hfu148 hj H locs hw ls hl
          refine lv_iload hx hb dX2_event_148 (lv_at hl 0 rfl) ?_
          refine lv_aload_n hx hb dX2_event_150 rfl (lv_at hl 2 rfl) ?_
          refine gf_X2_76 C hw hm.1 (v := .ref (ad 32)) rfl dX2_event_151 ?_
          refine lv_iload_n hx hb dX2_event_154 rfl (lv_at hl 3 rfl) ?_
          refine lv_iconst (v := 1) hx hb dX2_event_155 (by decide) ?_
          refine tf_iaddN hx hb E 1 rfl rfl dX2_event_156 ?_
          refine mo_ald (v := nI (kf (E + 1))) C hw hm 32 (by decide) (by decide) (E + 1) rfl (show E + 1 < 241 by omega) (h32 (E + 1) (by omega)) dX2_event_157 ?_
          refine tf_icmp_geN hx hb (kf E + j) (kf (E + 1)) rfl rfl (tgt := 190) dX2_event_158 (by decide) (by omega) (by omega) (fun c158 => ?_) (fun c158 => ?_)
          · refine lv_iload hx hb dX2_event_190 (lv_at hl 1 rfl) ?_
            refine tf_reti C hw hr hlk dX2_event_192 (by first | exact Nat.le_of_ble_eq_true rfl | omega) (by first | exact Nat.le_of_ble_eq_true rfl | omega) ?_
            refine ⟨?_, rfl⟩
            simp only [pm_event, c_e, hEc, if_true]
            rw [show kf (E + 1) - kf E = j by omega]
            rw [c11]
            rfl
          · have h33j := (h33 (kf E + j) (by omega)).2
            refine lv_aload_n hx hb dX2_event_161 rfl (lv_at hl 2 rfl) ?_
            refine lv_aload_n hx hb dX2_event_162 rfl (lv_at hl 2 rfl) ?_
            refine gf_X2_79 C hw hm.1 (v := .ref (ad 33)) rfl dX2_event_163 ?_
            refine lv_iload hx hb dX2_event_166 (lv_at hl 0 rfl) ?_
            refine mo_ald (v := nI (kh (kf E + j))) C hw hm 33 (by decide) (by decide) (kf E + j) rfl (show kf E + j < 240 by omega) (h33 (kf E + j) (by omega)).1 dX2_event_168 ?_
            refine tf_goi (tf_V (n := 1) C hw hm.1 rfl [.int (nI (kh (kf E + j)))] (metX2_kindOf hB hm (h := kh (kf E + j)) (by omega)) (lw_V q1112 q1114 qs27 q45 q1115) rfl ⟨by decide, by decide, by decide +kernel⟩ ⟨rfl, rfl, Nat.le_of_ble_eq_true rfl, Nat.le_of_ble_eq_true rfl, (by first | exact Nat.le_of_ble_eq_true rfl | (show _ ≤ 0; omega)), (by first | exact Nat.le_of_ble_eq_true rfl | (show _ ≤ 0; omega))⟩ rfl hl rfl (Nat.le_of_ble_eq_true rfl) dX2_event_169) hw (fun r3 G3 H locs hp3 hw => ?_)
            obtain ⟨hre, hGe⟩ := hp3
            have hre : r3 = pm_kind ar (kh (kf E + j)) := hre
            obtain rfl := hre.symm
            obtain rfl := hGe.symm
            refine lv_iconst (v := 2) hx hb dX2_event_172 (by decide) ?_
            refine lv_icmp_lt (tgt := 180) hx hb dX2_event_173 (by decide) (fun c173 => ?_) (fun c173 => ?_)
            · refine lv_iload hx hb dX2_event_180 (lv_at hl 1 rfl) ?_
              refine lv_istore (lv' := [(4, .int (pm_sureL ar kh (kf E) j)), (5, .int (nI (kf E + j))), (0, .ref mm), (1, .int (nI E)), (2, .int what)]) hx hb dX2_event_182 hl (by decide) rfl (fun ls hl => ?_)
              rw [show (pm_sureL ar kh (kf E) j : Int32) = pm_sureL ar kh (kf E) (j + 1) by simp only [pm_sureL, if_pos c173]] at hl
              refine lv_iinc (v := nI (kf E + j + 1)) (lv' := [(5, .int (nI (kf E + j + 1))), (4, .int (pm_sureL ar kh (kf E) (j + 1))), (0, .ref mm), (1, .int (nI E)), (2, .int what)]) hx hb dX2_event_184 hl (k := 1) rfl (nI_1 _) (by decide) rfl (fun ls hl => ?_)
              refine lv_goto (tgt := 148) hx hb dX2_event_187 (by decide) ?_
              exact ih148 (j + 1) (by omega) (by omega) _ _ hw ls hl
            · refine lv_iconst (v := 0) hx hb dX2_event_176 (by decide) ?_
              refine lv_goto (tgt := 182) hx hb dX2_event_177 (by decide) ?_
              refine lv_istore (lv' := [(4, .int 0), (5, .int (nI (kf E + j))), (0, .ref mm), (1, .int (nI E)), (2, .int what)]) hx hb dX2_event_182 hl (by decide) rfl (fun ls hl => ?_)
              rw [show (0 : Int32) = pm_sureL ar kh (kf E) (j + 1) by simp only [pm_sureL, if_neg c173]] at hl
              refine lv_iinc (v := nI (kf E + j + 1)) (lv' := [(5, .int (nI (kf E + j + 1))), (4, .int (pm_sureL ar kh (kf E) (j + 1))), (0, .ref mm), (1, .int (nI E)), (2, .int what)]) hx hb dX2_event_184 hl (k := 1) rfl (nI_1 _) (by decide) rfl (fun ls hl => ?_)
              refine lv_goto (tgt := 148) hx hb dX2_event_187 (by decide) ?_
              exact ih148 (j + 1) (by omega) (by omega) _ _ hw ls hl
      exact b148 (kf (E + 1) - kf E + 1) 0 (by omega) (by omega) _ _ hw ls hl
    · refine lv_tableOut (tgt := 193) hx hb dX2_event_11 c11 (by decide) ?_
      refine lv_bipush (v := (-2)) hx hb dX2_event_193 (by decide) ?_
      refine tf_reti C hw hr hlk dX2_event_195 (by first | exact Nat.le_of_ble_eq_true rfl | omega) (by first | exact Nat.le_of_ble_eq_true rfl | omega) ?_
      refine ⟨?_, rfl⟩
      simp only [pm_event, c_e, hEc, if_true]
      have hne2 : ∀ j : Nat, j ≤ 4 → what ≠ nI j := fun j hj h => by rw [h, nI_toInt (by omega)] at c11; omega
      rw [if_neg (show ¬ what = 0 from hne2 0 (by decide)), if_neg (show ¬ what = 1 from hne2 1 (by decide)), if_neg (show ¬ what = 2 from hne2 2 (by decide)), if_neg (show ¬ what = 3 from hne2 3 (by decide)), if_neg (show ¬ what = 4 from hne2 4 (by decide))]
  · replace c5 := pt_b0 c5
    refine lv_iconst (v := (-1)) hx hb dX2_event_8 (by decide) ?_
    exact tf_reti C hw hr hlk dX2_event_9 (by first | exact Nat.le_of_ble_eq_true rfl | omega) (by first | exact Nat.le_of_ble_eq_true rfl | omega) (by refine ⟨?_, rfl⟩; rw [hk30] at c5; simp [pm_event, c5])
