/-! MODULE Span, Tank -/
set_option maxRecDepth 100000
/-- an array of spans at arr: the first n hold from f, what w -/
def tf_Sp (dA : Nat → ClassId) (G : tf_Pic) (arr n : Nat) (f w : Nat → Int32) : Prop := ∃ r : Nat → Option Nat, G arr = some (.inl (dA 7, 20, .inr (.inr (.inr (.inr r))))) ∧ ∀ k, k < n → ∃ b, r k = some b ∧ G b = some (.inr (8, [.int (f k), .int (w k)]))
/-- a tank at a: place x y; n clocks (array ca; cf, cw), n2 downs (array da; df, dw) -/
def tf_Tk (dA : Nat → ClassId) (G : tf_Pic) (a : Nat) (x y : Int32) (ca n : Nat) (cf cw : Nat → Int32) (da n2 : Nat) (df dw : Nat → Int32) : Prop := G a = some (.inr (3, [.int x, .int y, .ref ca, .int (nI n), .ref da, .int (nI n2)])) ∧ tf_Sp dA G ca n cf cw ∧ tf_Sp dA G da n2 df dw ∧ n ≤ 20 ∧ n2 ≤ 20
/-- fastAt: the latest of the first k clocks that began -/
def pt_fast (cf cw : Nat → Int32) (t : Int32) : Nat → Int32
  | 0 => 0
  | k + 1 => if t < cf k then pt_fast cf cw t k else cw k
/-- isDown: some of the first k downs holds the time -/
def pt_down (df dw : Nat → Int32) (t : Int32) : Nat → Bool
  | 0 => false
  | k + 1 => pt_down df dw t k || (decide (df k ≤ t) && decide (t < dw k))
def pt_b (b : Bool) : Int32 := if b then 1 else 0
theorem pt_b01 (b : Bool) : pt_b b = 0 ∨ pt_b b = 1 := by cases b <;> simp [pt_b]
theorem pt_b_or1 (b : Bool) : pt_b b ||| 1 = pt_b (b || true) := by cases b <;> decide
theorem pt_b_or0 (b : Bool) : pt_b b ||| 0 = pt_b (b || false) := by cases b <;> decide
/-- next: the first begin or end behind t, at most b0 -/
def pt_next (df dw : Nat → Int32) (t b0 : Int32) : Nat → Int32
  | 0 => b0
  | k + 1 =>
    let b1 := pt_next df dw t b0 k
    let b2 := if df k ≤ t then b1 else if df k < b1 then df k else b1
    if dw k ≤ t then b2 else if dw k < b2 then dw k else b2

set_option maxHeartbeats 4000000 in
set_option maxRecDepth 100000 in
theorem metX8_init {l : Launch} {S0 : State} {D : va_G} {dA : Nat → ClassId} (hB : tf_B S0 D dA) {sz : Nat} {G : tf_Pic} (a : Nat) (v w : Int32) (u1 u2 : Value) (ha : G a = some (.inr (8, [u1, u2]))) : Met l yX8_init (ws_ yX8_init cX8_init 3 none) (tf_rm 1 0 0) (tf_Pc S0 D sz G [.ref a, .int v, .int w]) (tf_Qv S0 D sz G (fun G1 => G1 = va_up G a (some (.inr (8, [.int v, .int w]))))) 0 0 (tf_A G sz) := by
  refine Met.ofW (cc := cX8_init) (maxL := 3) (ret := none) (by decide) rfl ?_
  intro p e s m args below meth c s₁ B hml hv
  obtain ⟨C, hw, hr, hlk, hin, hargs⟩ := tf_enter hB B hml hv
  subst hargs
  have C : tf_C p s m ([.ref a, .int v, .int w] : List Value).toArray c cX8_init 3 RX8 S0 D dA := C
  have hx := C.hx
  have hb := C.hb
  change W p l e (tf_rm 1 0 0) s m ([.ref a, .int v, .int w] : List Value).toArray below meth c s.heap [] 0 0 (MQ below (tf_Qv S0 D sz G (fun G1 => G1 = va_up G a (some (.inr (8, [.int v, .int w]))))) ([.ref a, .int v, .int w] : List Value).toArray s 0 0 (tf_A G sz)) (entryFrame m ([.ref a, .int v, .int w] : List Value).toArray 3)
  refine tf_start [.ref a, .int v, .int w] (Nat.le_of_ble_eq_true rfl) (fun ls hl => ?_)
  have hl : lv_has ls 3 [(0, .ref a), (1, .int v), (2, .int w)] := hl
  refine lv_aload_n hx hb dX8_init_0 rfl (lv_at hl 0 rfl) ?_
  refine W.objInit hx hb C.hown (C.hts _ q200) (C.hts _ q71) (C.hts _ q72) rfl (by rw [C.hml]; exact hl.1) rfl dX8_init_1 (Nat.le_of_ble_eq_true rfl) (Nat.le_of_ble_eq_true rfl) ?_
  refine W.eq (g2 := F0 m 4 ls []) rfl ?_
  refine lv_aload_n hx hb dX8_init_4 rfl (lv_at hl 0 rfl) ?_
  refine lv_iload_n hx hb dX8_init_5 rfl (lv_at hl 1 rfl) ?_
  refine pf_X8_7 C hin hw ha v (by simp) dX8_init_6 (fun H locs hw => ?_)
  obtain ⟨G1, hG1⟩ : ∃ Z, Z = va_up G a (some (.inr (8, [.int v, u2]))) := ⟨_, rfl⟩
  have hw := tf_ren hG1 hw
  have f1_a : G1 a = some (.inr (8, [.int v, u2])) := by rw [hG1]; exact va_up_self _ _ _
  refine lv_aload_n hx hb dX8_init_9 rfl (lv_at hl 0 rfl) ?_
  refine lv_iload_n hx hb dX8_init_10 rfl (lv_at hl 2 rfl) ?_
  refine pf_X8_13 C hin hw f1_a w (by simp) dX8_init_11 (fun H locs hw => ?_)
  obtain ⟨G2, hG2⟩ : ∃ Z, Z = va_up G1 a (some (.inr (8, [.int v, .int w]))) := ⟨_, rfl⟩
  have hw := tf_ren hG2 hw
  have f2_a : G2 a = some (.inr (8, [.int v, .int w])) := by rw [hG2]; exact va_up_self _ _ _
  exact tf_retv C hw hr hlk dX8_init_14 (by first | exact Nat.le_of_ble_eq_true rfl | omega) (by first | exact Nat.le_of_ble_eq_true rfl | omega) (by subst hG2; subst hG1; exact bx_uu _ _ _ _)

set_option maxHeartbeats 4000000 in
set_option maxRecDepth 100000 in
/-- the clock of the tank at a time -/
theorem metX3_fastAt {l : Launch} {S0 : State} {D : va_G} {dA : Nat → ClassId} (hB : tf_B S0 D dA) {sz : Nat} {G : tf_Pic} {a : Nat} {x y : Int32} {ca n : Nat} {cf cw : Nat → Int32} {da n2 : Nat} {df dw : Nat → Int32} (hT : tf_Tk dA G a x y ca n cf cw da n2 df dw) (t : Int32) : Met l yX3_fastAt (ws_ yX3_fastAt cX3_fastAt 3 (some .int)) (tf_rm 1 0 0) (tf_Pc S0 D sz G [.ref a, .int t]) (tf_Qi S0 D sz G (fun r G1 => r = pt_fast cf cw t n ∧ G1 = G)) 0 0 (tf_A G sz) := by
  refine Met.ofW (cc := cX3_fastAt) (maxL := 3) (ret := (some .int)) (by decide) rfl ?_
  intro p e s m args below meth c s₁ B hml hv
  obtain ⟨C, hw, hr, hlk, hin, hargs⟩ := tf_enter hB B hml hv
  subst hargs
  have C : tf_C p s m ([.ref a, .int t] : List Value).toArray c cX3_fastAt 3 RX3 S0 D dA := C
  have hx := C.hx
  have hb := C.hb
  change W p l e (tf_rm 1 0 0) s m ([.ref a, .int t] : List Value).toArray below meth c s.heap [] 0 0 (MQ below (tf_Qi S0 D sz G (fun r G1 => r = pt_fast cf cw t n ∧ G1 = G)) ([.ref a, .int t] : List Value).toArray s 0 0 (tf_A G sz)) (entryFrame m ([.ref a, .int t] : List Value).toArray 3)
  obtain ⟨hT, ⟨rc, hca, hcs⟩, ⟨rd, hda, hds⟩, hn, hn2⟩ := hT
  have b7 : ∀ (fuel : Nat) (k : Nat), k < fuel → (k ≤ n) → (pt_fast cf cw t n = pt_fast cf cw t k) → ∀ (H : Heap) (locs : List Loc), tf_Wd S0 D (tf_A G sz) s.heap G H locs → ∀ (ls : Array Slot), lv_has ls 3 [(2, .int (nI k - 1)), (0, .ref a), (1, .int t)] → W p l e (tf_rm 1 0 0) s m ([.ref a, .int t] : List Value).toArray below meth c H locs 0 0 (MQ below (tf_Qi S0 D sz G (fun r G1 => r = pt_fast cf cw t n ∧ G1 = G)) ([.ref a, .int t] : List Value).toArray s 0 0 (tf_A G sz)) (F0 m 7 ls []) := by
    intro fuel7
    induction fuel7 with
    | zero => intro k hfu7; exact absurd hfu7 (Nat.not_lt_zero _)
    | succ fuel7 ih7 =>
      intro k hfu7 hk he H locs hw ls hl
      refine lv_iload_n hx hb dX3_fastAt_7 rfl (lv_at hl 0 rfl) ?_
      refine lv_if_lt (tgt := 40) hx hb dX3_fastAt_8 (by decide) (fun c8 => ?_) (fun c8 => ?_)
      · refine lv_iconst (v := 0) hx hb dX3_fastAt_40 (by decide) ?_
        exact tf_reti C hw hr hlk dX3_fastAt_41 (by first | exact Nat.le_of_ble_eq_true rfl | omega) (by first | exact Nat.le_of_ble_eq_true rfl | omega) (by refine ⟨?_, rfl⟩; rw [he, tf_dec0 (by omega) c8]; rfl)
      · obtain ⟨j, hj⟩ := tf_dec1 c8
        subst hj
        rw [nI_pred] at hl
        refine lv_aload_n hx hb dX3_fastAt_11 rfl (lv_at hl 1 rfl) ?_
        refine gf_X3_11 C hw hT rfl dX3_fastAt_12 ?_
        refine lv_iload_n hx hb dX3_fastAt_15 rfl (lv_at hl 0 rfl) ?_
        obtain ⟨sp, er, gs⟩ := hcs j (by omega)
        refine tf_aald C hw 7 rfl rfl hca j rfl (by omega) (by decide) (tf_rfs er) dX3_fastAt_16 ?_
        refine gf_X3_36 C hw gs rfl dX3_fastAt_17 ?_
        refine lv_iload_n hx hb dX3_fastAt_20 rfl (lv_at hl 2 rfl) ?_
        refine lv_icmp_gt (tgt := 34) hx hb dX3_fastAt_21 (by decide) (fun c21 => ?_) (fun c21 => ?_)
        · refine lv_iinc (v := nI j - 1) (lv' := [(2, .int (nI j - 1)), (0, .ref a), (1, .int t)]) hx hb dX3_fastAt_34 hl (k := 0) rfl (tf_m1 j) (by decide) rfl (fun ls hl => ?_)
          refine lv_goto (tgt := 7) hx hb dX3_fastAt_37 (by decide) ?_
          exact ih7 j (by omega) (by omega) (by rw [he]; simp only [pt_fast, if_pos c21]) _ _ hw ls hl
        · refine lv_aload_n hx hb dX3_fastAt_24 rfl (lv_at hl 1 rfl) ?_
          refine gf_X3_11 C hw hT rfl dX3_fastAt_25 ?_
          refine lv_iload_n hx hb dX3_fastAt_28 rfl (lv_at hl 0 rfl) ?_
          obtain ⟨sp_2, er_2, gs_2⟩ := hcs j (by omega)
          refine tf_aald C hw 7 rfl rfl hca j rfl (by omega) (by decide) (tf_rfs er_2) dX3_fastAt_29 ?_
          refine gf_X3_39 C hw gs_2 rfl dX3_fastAt_30 ?_
          exact tf_reti C hw hr hlk dX3_fastAt_33 (by first | exact Nat.le_of_ble_eq_true rfl | omega) (by first | exact Nat.le_of_ble_eq_true rfl | omega) (by refine ⟨?_, rfl⟩; rw [he]; simp only [pt_fast, if_neg c21])
  refine tf_start [.ref a, .int t] (Nat.le_of_ble_eq_true rfl) (fun ls hl => ?_)
  have hl : lv_has ls 3 [(0, .ref a), (1, .int t)] := hl
  refine lv_aload_n hx hb dX3_fastAt_0 rfl (lv_at hl 0 rfl) ?_
  refine gf_X3_27 C hw hT rfl dX3_fastAt_1 ?_
  refine lv_iconst (v := 1) hx hb dX3_fastAt_4 (by decide) ?_
  refine lv_isub hx hb dX3_fastAt_5 ?_
  refine lv_istore_n (lv' := [(2, .int ((nI n) - 1)), (0, .ref a), (1, .int t)]) hx hb dX3_fastAt_6 rfl hl (by decide) rfl (fun ls hl => ?_)
  exact b7 (n + 1) n (by omega) (Nat.le_refl _) rfl _ _ hw ls hl

set_option maxHeartbeats 4000000 in
set_option maxRecDepth 100000 in
/-- is the tank down at a time -/
theorem metX3_isDown {l : Launch} {S0 : State} {D : va_G} {dA : Nat → ClassId} (hB : tf_B S0 D dA) {sz : Nat} {G : tf_Pic} {a : Nat} {x y : Int32} {ca n : Nat} {cf cw : Nat → Int32} {da n2 : Nat} {df dw : Nat → Int32} (hT : tf_Tk dA G a x y ca n cf cw da n2 df dw) (t : Int32) : Met l yX3_isDown (ws_ yX3_isDown cX3_isDown 4 (some .boolean)) (tf_rm 1 0 0) (tf_Pc S0 D sz G [.ref a, .int t]) (tf_Qi S0 D sz G (fun r G1 => r = pt_b (pt_down df dw t n2) ∧ G1 = G)) 0 0 (tf_A G sz) := by
  refine Met.ofW (cc := cX3_isDown) (maxL := 4) (ret := (some .boolean)) (by decide) rfl ?_
  intro p e s m args below meth c s₁ B hml hv
  obtain ⟨C, hw, hr, hlk, hin, hargs⟩ := tf_enter hB B hml hv
  subst hargs
  have C : tf_C p s m ([.ref a, .int t] : List Value).toArray c cX3_isDown 4 RX3 S0 D dA := C
  have hx := C.hx
  have hb := C.hb
  change W p l e (tf_rm 1 0 0) s m ([.ref a, .int t] : List Value).toArray below meth c s.heap [] 0 0 (MQ below (tf_Qi S0 D sz G (fun r G1 => r = pt_b (pt_down df dw t n2) ∧ G1 = G)) ([.ref a, .int t] : List Value).toArray s 0 0 (tf_A G sz)) (entryFrame m ([.ref a, .int t] : List Value).toArray 4)
  obtain ⟨hT, ⟨rc, hca, hcs⟩, ⟨rd, hda, hds⟩, hn, hn2⟩ := hT
  have b4 : ∀ (fuel : Nat) (k : Nat), n2 - k < fuel → (k ≤ n2) → ∀ (H : Heap) (locs : List Loc), tf_Wd S0 D (tf_A G sz) s.heap G H locs → ∀ (ls : Array Slot), lv_has ls 4 [(3, .int (nI k)), (2, .int (pt_b (pt_down df dw t k))), (0, .ref a), (1, .int t)] → W p l e (tf_rm 1 0 0) s m ([.ref a, .int t] : List Value).toArray below meth c H locs 0 0 (MQ below (tf_Qi S0 D sz G (fun r G1 => r = pt_b (pt_down df dw t n2) ∧ G1 = G)) ([.ref a, .int t] : List Value).toArray s 0 0 (tf_A G sz)) (F0 m 4 ls []) := by
    intro fuel4
    induction fuel4 with
    | zero => intro k hfu4; exact absurd hfu4 (Nat.not_lt_zero _)
    | succ fuel4 ih4 =>
      intro k hfu4 hk H locs hw ls hl
      refine lv_iload_n hx hb dX3_isDown_4 rfl (lv_at hl 0 rfl) ?_
      refine lv_aload_n hx hb dX3_isDown_5 rfl (lv_at hl 2 rfl) ?_
      refine gf_X3_33 C hw hT rfl dX3_isDown_6 ?_
      refine tf_icmp_geN hx hb k n2 rfl rfl (tgt := 52) dX3_isDown_9 (by decide) (by omega) (by omega) (fun c9 => ?_) (fun c9 => ?_)
      · refine lv_iload_n hx hb dX3_isDown_52 rfl (lv_at hl 1 rfl) ?_
        exact tf_retz C hw hr hlk dX3_isDown_53 (by first | exact Nat.le_of_ble_eq_true rfl | omega) (by first | exact Nat.le_of_ble_eq_true rfl | omega) (pt_b01 _) (by refine ⟨?_, rfl⟩; rw [show k = n2 by omega])
      · refine lv_iload_n hx hb dX3_isDown_12 rfl (lv_at hl 1 rfl) ?_
        refine lv_iload_n hx hb dX3_isDown_13 rfl (lv_at hl 3 rfl) ?_
        refine lv_aload_n hx hb dX3_isDown_14 rfl (lv_at hl 2 rfl) ?_
        refine gf_X3_17 C hw hT rfl dX3_isDown_15 ?_
        refine lv_iload_n hx hb dX3_isDown_18 rfl (lv_at hl 0 rfl) ?_
        obtain ⟨sp, er, gs⟩ := hds k (by omega)
        refine tf_aald C hw 7 rfl rfl hda k rfl (by omega) (by decide) (tf_rfs er) dX3_isDown_19 ?_
        refine gf_X3_36 C hw gs rfl dX3_isDown_20 ?_
        refine lv_icmp_lt (tgt := 43) hx hb dX3_isDown_23 (by decide) (fun c23 => ?_) (fun c23 => ?_)
        · refine lv_iconst (v := 0) hx hb dX3_isDown_43 (by decide) ?_
          refine lv_ior hx hb dX3_isDown_44 ?_
          rw [show (pt_b (pt_down df dw t k)) ||| 0 = pt_b (pt_down df dw t (k + 1)) by simp only [pt_down, decide_eq_false (show ¬ df k ≤ t from fun h => Int32.not_le.mpr c23 h), Bool.false_and]; exact pt_b_or0 _]
          refine lv_istore_n (lv' := [(2, .int (pt_b (pt_down df dw t (k + 1)))), (3, .int (nI k)), (0, .ref a), (1, .int t)]) hx hb dX3_isDown_45 rfl hl (by decide) rfl (fun ls hl => ?_)
          refine lv_iinc (v := nI (k + 1)) (lv' := [(3, .int (nI (k + 1))), (2, .int (pt_b (pt_down df dw t (k + 1)))), (0, .ref a), (1, .int t)]) hx hb dX3_isDown_46 hl (k := 1) rfl (nI_1 _) (by decide) rfl (fun ls hl => ?_)
          refine lv_goto (tgt := 4) hx hb dX3_isDown_49 (by decide) ?_
          exact ih4 (k + 1) (by omega) (by omega) _ _ hw ls hl
        · refine lv_iload_n hx hb dX3_isDown_26 rfl (lv_at hl 3 rfl) ?_
          refine lv_aload_n hx hb dX3_isDown_27 rfl (lv_at hl 2 rfl) ?_
          refine gf_X3_17 C hw hT rfl dX3_isDown_28 ?_
          refine lv_iload_n hx hb dX3_isDown_31 rfl (lv_at hl 0 rfl) ?_
          obtain ⟨sp_2, er_2, gs_2⟩ := hds k (by omega)
          refine tf_aald C hw 7 rfl rfl hda k rfl (by omega) (by decide) (tf_rfs er_2) dX3_isDown_32 ?_
          refine gf_X3_39 C hw gs_2 rfl dX3_isDown_33 ?_
          refine lv_icmp_ge (tgt := 43) hx hb dX3_isDown_36 (by decide) (fun c36 => ?_) (fun c36 => ?_)
          · refine lv_iconst (v := 0) hx hb dX3_isDown_43 (by decide) ?_
            refine lv_ior hx hb dX3_isDown_44 ?_
            rw [show (pt_b (pt_down df dw t k)) ||| 0 = pt_b (pt_down df dw t (k + 1)) by simp only [pt_down, decide_eq_true (Int32.not_lt.mp c23), decide_eq_false (show ¬ t < dw k from Int32.not_lt.mpr c36), Bool.true_and]; exact pt_b_or0 _]
            refine lv_istore_n (lv' := [(2, .int (pt_b (pt_down df dw t (k + 1)))), (3, .int (nI k)), (0, .ref a), (1, .int t)]) hx hb dX3_isDown_45 rfl hl (by decide) rfl (fun ls hl => ?_)
            refine lv_iinc (v := nI (k + 1)) (lv' := [(3, .int (nI (k + 1))), (2, .int (pt_b (pt_down df dw t (k + 1)))), (0, .ref a), (1, .int t)]) hx hb dX3_isDown_46 hl (k := 1) rfl (nI_1 _) (by decide) rfl (fun ls hl => ?_)
            refine lv_goto (tgt := 4) hx hb dX3_isDown_49 (by decide) ?_
            exact ih4 (k + 1) (by omega) (by omega) _ _ hw ls hl
          · refine lv_iconst (v := 1) hx hb dX3_isDown_39 (by decide) ?_
            refine lv_goto (tgt := 44) hx hb dX3_isDown_40 (by decide) ?_
            refine lv_ior hx hb dX3_isDown_44 ?_
            rw [show (pt_b (pt_down df dw t k)) ||| 1 = pt_b (pt_down df dw t (k + 1)) by simp only [pt_down, decide_eq_true (Int32.not_lt.mp c23), decide_eq_true (Int32.not_le.mp c36), Bool.true_and]; exact pt_b_or1 _]
            refine lv_istore_n (lv' := [(2, .int (pt_b (pt_down df dw t (k + 1)))), (3, .int (nI k)), (0, .ref a), (1, .int t)]) hx hb dX3_isDown_45 rfl hl (by decide) rfl (fun ls hl => ?_)
            refine lv_iinc (v := nI (k + 1)) (lv' := [(3, .int (nI (k + 1))), (2, .int (pt_b (pt_down df dw t (k + 1)))), (0, .ref a), (1, .int t)]) hx hb dX3_isDown_46 hl (k := 1) rfl (nI_1 _) (by decide) rfl (fun ls hl => ?_)
            refine lv_goto (tgt := 4) hx hb dX3_isDown_49 (by decide) ?_
            exact ih4 (k + 1) (by omega) (by omega) _ _ hw ls hl
  refine tf_start [.ref a, .int t] (Nat.le_of_ble_eq_true rfl) (fun ls hl => ?_)
  have hl : lv_has ls 4 [(0, .ref a), (1, .int t)] := hl
  refine lv_iconst (v := 0) hx hb dX3_isDown_0 (by decide) ?_
  refine lv_istore_n (lv' := [(2, .int 0), (0, .ref a), (1, .int t)]) hx hb dX3_isDown_1 rfl hl (by decide) rfl (fun ls hl => ?_)
  refine lv_iconst (v := 0) hx hb dX3_isDown_2 (by decide) ?_
  refine lv_istore_n (lv' := [(3, .int 0), (2, .int 0), (0, .ref a), (1, .int t)]) hx hb dX3_isDown_3 rfl hl (by decide) rfl (fun ls hl => ?_)
  exact b4 (n2 + 1) 0 (by omega) (Nat.zero_le _) _ _ hw ls hl

set_option maxHeartbeats 4000000 in
set_option maxRecDepth 100000 in
/-- the first begin or end behind a time -/
theorem metX3_next {l : Launch} {S0 : State} {D : va_G} {dA : Nat → ClassId} (hB : tf_B S0 D dA) {sz : Nat} {G : tf_Pic} {a : Nat} {x y : Int32} {ca n : Nat} {cf cw : Nat → Int32} {da n2 : Nat} {df dw : Nat → Int32} (hT : tf_Tk dA G a x y ca n cf cw da n2 df dw) (t b0 : Int32) : Met l yX3_next (ws_ yX3_next cX3_next 5 (some .int)) (tf_rm 2 0 0) (tf_Pc S0 D sz G [.ref a, .int t, .int b0]) (tf_Qi S0 D sz G (fun r G1 => r = pt_next df dw t b0 n2 ∧ G1 = G)) 0 0 (tf_A G sz) := by
  refine Met.ofW (cc := cX3_next) (maxL := 5) (ret := (some .int)) (by decide) rfl ?_
  intro p e s m args below meth c s₁ B hml hv
  obtain ⟨C, hw, hr, hlk, hin, hargs⟩ := tf_enter hB B hml hv
  subst hargs
  have C : tf_C p s m ([.ref a, .int t, .int b0] : List Value).toArray c cX3_next 5 RX3 S0 D dA := C
  have hx := C.hx
  have hb := C.hb
  change W p l e (tf_rm 2 0 0) s m ([.ref a, .int t, .int b0] : List Value).toArray below meth c s.heap [] 0 0 (MQ below (tf_Qi S0 D sz G (fun r G1 => r = pt_next df dw t b0 n2 ∧ G1 = G)) ([.ref a, .int t, .int b0] : List Value).toArray s 0 0 (tf_A G sz)) (entryFrame m ([.ref a, .int t, .int b0] : List Value).toArray 5)
  obtain ⟨hT, ⟨rc, hca, hcs⟩, ⟨rd, hda, hds⟩, hn, hn2⟩ := hT
  have b5 : ∀ (fuel : Nat) (k : Nat), n2 - k < fuel → (k ≤ n2) → ∀ (H : Heap) (locs : List Loc), tf_Wd S0 D (tf_A G sz) s.heap G H locs → ∀ (ls : Array Slot), lv_has ls 5 [(4, .int (nI k)), (3, .int (pt_next df dw t b0 k)), (0, .ref a), (1, .int t), (2, .int b0)] → W p l e (tf_rm 2 0 0) s m ([.ref a, .int t, .int b0] : List Value).toArray below meth c H locs 0 0 (MQ below (tf_Qi S0 D sz G (fun r G1 => r = pt_next df dw t b0 n2 ∧ G1 = G)) ([.ref a, .int t, .int b0] : List Value).toArray s 0 0 (tf_A G sz)) (F0 m 5 ls []) := by
    intro fuel5
    induction fuel5 with
    | zero => intro k hfu5; exact absurd hfu5 (Nat.not_lt_zero _)
    | succ fuel5 ih5 =>
      intro k hfu5 hk H locs hw ls hl
      refine lv_iload hx hb dX3_next_5 (lv_at hl 0 rfl) ?_
      refine lv_aload_n hx hb dX3_next_7 rfl (lv_at hl 2 rfl) ?_
      refine gf_X3_33 C hw hT rfl dX3_next_8 ?_
      refine tf_icmp_geN hx hb k n2 rfl rfl (tgt := 86) dX3_next_11 (by decide) (by omega) (by omega) (fun c11 => ?_) (fun c11 => ?_)
      · refine lv_iload_n hx hb dX3_next_86 rfl (lv_at hl 1 rfl) ?_
        exact tf_reti C hw hr hlk dX3_next_87 (by first | exact Nat.le_of_ble_eq_true rfl | omega) (by first | exact Nat.le_of_ble_eq_true rfl | omega) (by refine ⟨?_, rfl⟩; rw [show k = n2 by omega])
      · refine lv_aload_n hx hb dX3_next_14 rfl (lv_at hl 2 rfl) ?_
        refine gf_X3_17 C hw hT rfl dX3_next_15 ?_
        refine lv_iload hx hb dX3_next_18 (lv_at hl 0 rfl) ?_
        obtain ⟨sp, er, gs⟩ := hds k (by omega)
        refine tf_aald C hw 7 rfl rfl hda k rfl (by omega) (by decide) (tf_rfs er) dX3_next_20 ?_
        refine gf_X3_36 C hw gs rfl dX3_next_21 ?_
        refine lv_iload_n hx hb dX3_next_24 rfl (lv_at hl 3 rfl) ?_
        refine lv_icmp_le (tgt := 45) hx hb dX3_next_25 (by decide) (fun c25 => ?_) (fun c25 => ?_)
        · refine lv_iload_n hx hb dX3_next_45 rfl (lv_at hl 1 rfl) ?_
          refine lv_istore_n (lv' := [(3, .int (pt_next df dw t b0 k)), (4, .int (nI k)), (0, .ref a), (1, .int t), (2, .int b0)]) hx hb dX3_next_46 rfl hl (by decide) rfl (fun ls hl => ?_)
          refine lv_aload_n hx hb dX3_next_47 rfl (lv_at hl 2 rfl) ?_
          refine gf_X3_17 C hw hT rfl dX3_next_48 ?_
          refine lv_iload hx hb dX3_next_51 (lv_at hl 1 rfl) ?_
          obtain ⟨sp_2, er_2, gs_2⟩ := hds k (by omega)
          refine tf_aald C hw 7 rfl rfl hda k rfl (by omega) (by decide) (tf_rfs er_2) dX3_next_53 ?_
          refine gf_X3_39 C hw gs_2 rfl dX3_next_54 ?_
          refine lv_iload_n hx hb dX3_next_57 rfl (lv_at hl 3 rfl) ?_
          refine lv_icmp_le (tgt := 78) hx hb dX3_next_58 (by decide) (fun c58 => ?_) (fun c58 => ?_)
          · refine lv_iload_n hx hb dX3_next_78 rfl (lv_at hl 0 rfl) ?_
            refine lv_istore_n (lv' := [(3, .int (pt_next df dw t b0 k)), (4, .int (nI k)), (0, .ref a), (1, .int t), (2, .int b0)]) hx hb dX3_next_79 rfl hl (by decide) rfl (fun ls hl => ?_)
            rw [show (pt_next df dw t b0 k : Int32) = pt_next df dw t b0 (k + 1) by simp only [pt_next, if_pos c25, if_pos c58]] at hl
            refine lv_iinc (v := nI (k + 1)) (lv' := [(4, .int (nI (k + 1))), (3, .int (pt_next df dw t b0 (k + 1))), (0, .ref a), (1, .int t), (2, .int b0)]) hx hb dX3_next_80 hl (k := 1) rfl (nI_1 _) (by decide) rfl (fun ls hl => ?_)
            refine lv_goto (tgt := 5) hx hb dX3_next_83 (by decide) ?_
            exact ih5 (k + 1) (by omega) (by omega) _ _ hw ls hl
          · refine lv_iload_n hx hb dX3_next_61 rfl (lv_at hl 0 rfl) ?_
            refine lv_aload_n hx hb dX3_next_62 rfl (lv_at hl 2 rfl) ?_
            refine gf_X3_17 C hw hT rfl dX3_next_63 ?_
            refine lv_iload hx hb dX3_next_66 (lv_at hl 1 rfl) ?_
            obtain ⟨sp_3, er_3, gs_3⟩ := hds k (by omega)
            refine tf_aald C hw 7 rfl rfl hda k rfl (by omega) (by decide) (tf_rfs er_3) dX3_next_68 ?_
            refine gf_X3_39 C hw gs_3 rfl dX3_next_69 ?_
            refine va_mmin hx hb (by rw [C.hml]; exact hl.1.symm) C.hown (C.hts _ q231) (C.hts _ q232) (C.hts _ q60) (C.hts _ q233) (Nat.le_of_ble_eq_true rfl) (Nat.le_of_ble_eq_true rfl) (Nat.le_of_ble_eq_true rfl) (Nat.le_of_ble_eq_true rfl) dX3_next_72 ?_
            refine lv_goto (tgt := 79) hx hb dX3_next_75 (by decide) ?_
            refine lv_istore_n (lv' := [(3, .int (if dw k < pt_next df dw t b0 k then dw k else pt_next df dw t b0 k)), (4, .int (nI k)), (0, .ref a), (1, .int t), (2, .int b0)]) hx hb dX3_next_79 rfl hl (by decide) rfl (fun ls hl => ?_)
            rw [show (if dw k < pt_next df dw t b0 k then dw k else pt_next df dw t b0 k : Int32) = pt_next df dw t b0 (k + 1) by simp only [pt_next, if_pos c25, if_neg c58]] at hl
            refine lv_iinc (v := nI (k + 1)) (lv' := [(4, .int (nI (k + 1))), (3, .int (pt_next df dw t b0 (k + 1))), (0, .ref a), (1, .int t), (2, .int b0)]) hx hb dX3_next_80 hl (k := 1) rfl (nI_1 _) (by decide) rfl (fun ls hl => ?_)
            refine lv_goto (tgt := 5) hx hb dX3_next_83 (by decide) ?_
            exact ih5 (k + 1) (by omega) (by omega) _ _ hw ls hl
        · refine lv_iload_n hx hb dX3_next_28 rfl (lv_at hl 1 rfl) ?_
          refine lv_aload_n hx hb dX3_next_29 rfl (lv_at hl 2 rfl) ?_
          refine gf_X3_17 C hw hT rfl dX3_next_30 ?_
          refine lv_iload hx hb dX3_next_33 (lv_at hl 0 rfl) ?_
          obtain ⟨sp_2, er_2, gs_2⟩ := hds k (by omega)
          refine tf_aald C hw 7 rfl rfl hda k rfl (by omega) (by decide) (tf_rfs er_2) dX3_next_35 ?_
          refine gf_X3_36 C hw gs_2 rfl dX3_next_36 ?_
          refine va_mmin hx hb (by rw [C.hml]; exact hl.1.symm) C.hown (C.hts _ q231) (C.hts _ q232) (C.hts _ q60) (C.hts _ q233) (Nat.le_of_ble_eq_true rfl) (Nat.le_of_ble_eq_true rfl) (Nat.le_of_ble_eq_true rfl) (Nat.le_of_ble_eq_true rfl) dX3_next_39 ?_
          refine lv_goto (tgt := 46) hx hb dX3_next_42 (by decide) ?_
          refine lv_istore_n (lv' := [(3, .int (if df k < pt_next df dw t b0 k then df k else pt_next df dw t b0 k)), (4, .int (nI k)), (0, .ref a), (1, .int t), (2, .int b0)]) hx hb dX3_next_46 rfl hl (by decide) rfl (fun ls hl => ?_)
          refine lv_aload_n hx hb dX3_next_47 rfl (lv_at hl 2 rfl) ?_
          refine gf_X3_17 C hw hT rfl dX3_next_48 ?_
          refine lv_iload hx hb dX3_next_51 (lv_at hl 1 rfl) ?_
          obtain ⟨sp_3, er_3, gs_3⟩ := hds k (by omega)
          refine tf_aald C hw 7 rfl rfl hda k rfl (by omega) (by decide) (tf_rfs er_3) dX3_next_53 ?_
          refine gf_X3_39 C hw gs_3 rfl dX3_next_54 ?_
          refine lv_iload_n hx hb dX3_next_57 rfl (lv_at hl 3 rfl) ?_
          refine lv_icmp_le (tgt := 78) hx hb dX3_next_58 (by decide) (fun c58 => ?_) (fun c58 => ?_)
          · refine lv_iload_n hx hb dX3_next_78 rfl (lv_at hl 0 rfl) ?_
            refine lv_istore_n (lv' := [(3, .int (if df k < pt_next df dw t b0 k then df k else pt_next df dw t b0 k)), (4, .int (nI k)), (0, .ref a), (1, .int t), (2, .int b0)]) hx hb dX3_next_79 rfl hl (by decide) rfl (fun ls hl => ?_)
            rw [show (if df k < pt_next df dw t b0 k then df k else pt_next df dw t b0 k : Int32) = pt_next df dw t b0 (k + 1) by simp only [pt_next, if_neg c25, if_pos c58]] at hl
            refine lv_iinc (v := nI (k + 1)) (lv' := [(4, .int (nI (k + 1))), (3, .int (pt_next df dw t b0 (k + 1))), (0, .ref a), (1, .int t), (2, .int b0)]) hx hb dX3_next_80 hl (k := 1) rfl (nI_1 _) (by decide) rfl (fun ls hl => ?_)
            refine lv_goto (tgt := 5) hx hb dX3_next_83 (by decide) ?_
            exact ih5 (k + 1) (by omega) (by omega) _ _ hw ls hl
          · refine lv_iload_n hx hb dX3_next_61 rfl (lv_at hl 0 rfl) ?_
            refine lv_aload_n hx hb dX3_next_62 rfl (lv_at hl 2 rfl) ?_
            refine gf_X3_17 C hw hT rfl dX3_next_63 ?_
            refine lv_iload hx hb dX3_next_66 (lv_at hl 1 rfl) ?_
            obtain ⟨sp_4, er_4, gs_4⟩ := hds k (by omega)
            refine tf_aald C hw 7 rfl rfl hda k rfl (by omega) (by decide) (tf_rfs er_4) dX3_next_68 ?_
            refine gf_X3_39 C hw gs_4 rfl dX3_next_69 ?_
            refine va_mmin hx hb (by rw [C.hml]; exact hl.1.symm) C.hown (C.hts _ q231) (C.hts _ q232) (C.hts _ q60) (C.hts _ q233) (Nat.le_of_ble_eq_true rfl) (Nat.le_of_ble_eq_true rfl) (Nat.le_of_ble_eq_true rfl) (Nat.le_of_ble_eq_true rfl) dX3_next_72 ?_
            refine lv_goto (tgt := 79) hx hb dX3_next_75 (by decide) ?_
            refine lv_istore_n (lv' := [(3, .int (if dw k < if df k < pt_next df dw t b0 k then df k else pt_next df dw t b0 k then dw k else if df k < pt_next df dw t b0 k then df k else pt_next df dw t b0 k)), (4, .int (nI k)), (0, .ref a), (1, .int t), (2, .int b0)]) hx hb dX3_next_79 rfl hl (by decide) rfl (fun ls hl => ?_)
            rw [show (if dw k < if df k < pt_next df dw t b0 k then df k else pt_next df dw t b0 k then dw k else if df k < pt_next df dw t b0 k then df k else pt_next df dw t b0 k : Int32) = pt_next df dw t b0 (k + 1) by simp only [pt_next, if_neg c25, if_neg c58]] at hl
            refine lv_iinc (v := nI (k + 1)) (lv' := [(4, .int (nI (k + 1))), (3, .int (pt_next df dw t b0 (k + 1))), (0, .ref a), (1, .int t), (2, .int b0)]) hx hb dX3_next_80 hl (k := 1) rfl (nI_1 _) (by decide) rfl (fun ls hl => ?_)
            refine lv_goto (tgt := 5) hx hb dX3_next_83 (by decide) ?_
            exact ih5 (k + 1) (by omega) (by omega) _ _ hw ls hl
  refine tf_start [.ref a, .int t, .int b0] (Nat.le_of_ble_eq_true rfl) (fun ls hl => ?_)
  have hl : lv_has ls 5 [(0, .ref a), (1, .int t), (2, .int b0)] := hl
  refine lv_iload_n hx hb dX3_next_0 rfl (lv_at hl 2 rfl) ?_
  refine lv_istore_n (lv' := [(3, .int b0), (0, .ref a), (1, .int t), (2, .int b0)]) hx hb dX3_next_1 rfl hl (by decide) rfl (fun ls hl => ?_)
  refine lv_iconst (v := 0) hx hb dX3_next_2 (by decide) ?_
  refine lv_istore (lv' := [(4, .int 0), (3, .int b0), (0, .ref a), (1, .int t), (2, .int b0)]) hx hb dX3_next_3 hl (by decide) rfl (fun ls hl => ?_)
  exact b5 (n2 + 1) 0 (by omega) (Nat.zero_le _) _ _ hw ls hl

set_option maxHeartbeats 4000000 in
set_option maxRecDepth 100000 in
theorem metX3_isWithin {l : Launch} {S0 : State} {D : va_G} {dA : Nat → ClassId} (hB : tf_B S0 D dA) {sz : Nat} {G : tf_Pic} {a b : Nat} {x y x2 y2 : Int32} {u1 u2 u3 u4 w1 w2 w3 w4 : Value} (ha : G a = some (.inr (3, [.int x, .int y, u1, u2, u3, u4]))) (hb0 : G b = some (.inr (3, [.int x2, .int y2, w1, w2, w3, w4]))) (rr : Int32) : Met l yX3_isWithin (ws_ yX3_isWithin cX3_isWithin 3 (some .boolean)) (tf_rm 1 0 0) (tf_Pc S0 D sz G [.ref a, .ref b, .int rr]) (tf_Qi S0 D sz G (fun r G1 => r = pt_b (decide (¬ rr * rr < (x - x2) * (x - x2) + (y - y2) * (y - y2))) ∧ G1 = G)) 0 0 (tf_A G sz) := by
  refine Met.ofW (cc := cX3_isWithin) (maxL := 3) (ret := (some .boolean)) (by decide) rfl ?_
  intro p e s m args below meth c s₁ B hml hv
  obtain ⟨C, hw, hr, hlk, hin, hargs⟩ := tf_enter hB B hml hv
  subst hargs
  have C : tf_C p s m ([.ref a, .ref b, .int rr] : List Value).toArray c cX3_isWithin 3 RX3 S0 D dA := C
  have hx := C.hx
  have hb := C.hb
  change W p l e (tf_rm 1 0 0) s m ([.ref a, .ref b, .int rr] : List Value).toArray below meth c s.heap [] 0 0 (MQ below (tf_Qi S0 D sz G (fun r G1 => r = pt_b (decide (¬ rr * rr < (x - x2) * (x - x2) + (y - y2) * (y - y2))) ∧ G1 = G)) ([.ref a, .ref b, .int rr] : List Value).toArray s 0 0 (tf_A G sz)) (entryFrame m ([.ref a, .ref b, .int rr] : List Value).toArray 3)
  refine tf_start [.ref a, .ref b, .int rr] (Nat.le_of_ble_eq_true rfl) (fun ls hl => ?_)
  have hl : lv_has ls 3 [(0, .ref a), (1, .ref b), (2, .int rr)] := hl
  refine lv_aload_n hx hb dX3_isWithin_0 rfl (lv_at hl 0 rfl) ?_
  refine gf_X3_20 C hw ha rfl dX3_isWithin_1 ?_
  refine lv_aload_n hx hb dX3_isWithin_4 rfl (lv_at hl 1 rfl) ?_
  refine gf_X3_20 C hw hb0 rfl dX3_isWithin_5 ?_
  refine lv_isub hx hb dX3_isWithin_8 ?_
  refine lv_aload_n hx hb dX3_isWithin_9 rfl (lv_at hl 0 rfl) ?_
  refine gf_X3_20 C hw ha rfl dX3_isWithin_10 ?_
  refine lv_aload_n hx hb dX3_isWithin_13 rfl (lv_at hl 1 rfl) ?_
  refine gf_X3_20 C hw hb0 rfl dX3_isWithin_14 ?_
  refine lv_isub hx hb dX3_isWithin_17 ?_
  refine lv_imul hx hb dX3_isWithin_18 ?_
  refine lv_aload_n hx hb dX3_isWithin_19 rfl (lv_at hl 0 rfl) ?_
  refine gf_X3_24 C hw ha rfl dX3_isWithin_20 ?_
  refine lv_aload_n hx hb dX3_isWithin_23 rfl (lv_at hl 1 rfl) ?_
  refine gf_X3_24 C hw hb0 rfl dX3_isWithin_24 ?_
  refine lv_isub hx hb dX3_isWithin_27 ?_
  refine lv_aload_n hx hb dX3_isWithin_28 rfl (lv_at hl 0 rfl) ?_
  refine gf_X3_24 C hw ha rfl dX3_isWithin_29 ?_
  refine lv_aload_n hx hb dX3_isWithin_32 rfl (lv_at hl 1 rfl) ?_
  refine gf_X3_24 C hw hb0 rfl dX3_isWithin_33 ?_
  refine lv_isub hx hb dX3_isWithin_36 ?_
  refine lv_imul hx hb dX3_isWithin_37 ?_
  refine lv_iadd hx hb dX3_isWithin_38 ?_
  refine lv_iload_n hx hb dX3_isWithin_39 rfl (lv_at hl 2 rfl) ?_
  refine lv_iload_n hx hb dX3_isWithin_40 rfl (lv_at hl 2 rfl) ?_
  refine lv_imul hx hb dX3_isWithin_41 ?_
  refine lv_icmp_gt (tgt := 49) hx hb dX3_isWithin_42 (by decide) (fun c42 => ?_) (fun c42 => ?_)
  · refine lv_iconst (v := 0) hx hb dX3_isWithin_49 (by decide) ?_
    exact tf_retz C hw hr hlk dX3_isWithin_50 (by first | exact Nat.le_of_ble_eq_true rfl | omega) (by first | exact Nat.le_of_ble_eq_true rfl | omega) (Or.inl rfl) (by refine ⟨?_, rfl⟩; rw [decide_eq_false (not_not_intro c42)]; rfl)
  · refine lv_iconst (v := 1) hx hb dX3_isWithin_45 (by decide) ?_
    refine lv_goto (tgt := 50) hx hb dX3_isWithin_46 (by decide) ?_
    exact tf_retz C hw hr hlk dX3_isWithin_50 (by first | exact Nat.le_of_ble_eq_true rfl | omega) (by first | exact Nat.le_of_ble_eq_true rfl | omega) (Or.inr rfl) (by refine ⟨?_, rfl⟩; rw [decide_eq_true c42]; rfl)

set_option maxHeartbeats 4000000 in
set_option maxRecDepth 100000 in
theorem metX3_init {l : Launch} {S0 : State} {D : va_G} {dA : Nat → ClassId} (hB : tf_B S0 D dA) {sz : Nat} {G : tf_Pic} (a : Nat) (x y : Int32) (ha : G a = some (.inr (3, [.int 0, .int 0, .null, .int 0, .null, .int 0]))) : Met l yX3_init (ws_ yX3_init cX3_init 3 none) (tf_rm 1 2 40) (tf_Pc S0 D sz G [.ref a, .int x, .int y]) (tf_Qv S0 D sz G (fun G1 => ∃ ca da : Nat, G ca = none ∧ G da = none ∧ ca ≠ da ∧ G1 a = some (.inr (3, [.int x, .int y, .ref ca, .int 0, .ref da, .int 0])) ∧ G1 ca = some (.inl (dA 7, 20, .inr (.inr (.inr (.inr (fun _ => none)))))) ∧ G1 da = some (.inl (dA 7, 20, .inr (.inr (.inr (.inr (fun _ => none)))))) ∧ ∀ b, b ≠ a → b ≠ ca → b ≠ da → G1 b = G b)) 2 40 (tf_A G sz) := by
  refine Met.ofW (cc := cX3_init) (maxL := 3) (ret := none) (by decide) rfl ?_
  intro p e s m args below meth c s₁ B hml hv
  obtain ⟨C, hw, hr, hlk, hin, hargs⟩ := tf_enter hB B hml hv
  subst hargs
  have C : tf_C p s m ([.ref a, .int x, .int y] : List Value).toArray c cX3_init 3 RX3 S0 D dA := C
  have hx := C.hx
  have hb := C.hb
  change W p l e (tf_rm 1 2 40) s m ([.ref a, .int x, .int y] : List Value).toArray below meth c s.heap [] 0 0 (MQ below (tf_Qv S0 D sz G (fun G1 => ∃ ca da : Nat, G ca = none ∧ G da = none ∧ ca ≠ da ∧ G1 a = some (.inr (3, [.int x, .int y, .ref ca, .int 0, .ref da, .int 0])) ∧ G1 ca = some (.inl (dA 7, 20, .inr (.inr (.inr (.inr (fun _ => none)))))) ∧ G1 da = some (.inl (dA 7, 20, .inr (.inr (.inr (.inr (fun _ => none)))))) ∧ ∀ b, b ≠ a → b ≠ ca → b ≠ da → G1 b = G b)) ([.ref a, .int x, .int y] : List Value).toArray s 2 40 (tf_A G sz)) (entryFrame m ([.ref a, .int x, .int y] : List Value).toArray 3)
  refine tf_start [.ref a, .int x, .int y] (Nat.le_of_ble_eq_true rfl) (fun ls hl => ?_)
  have hl : lv_has ls 3 [(0, .ref a), (1, .int x), (2, .int y)] := hl
  refine lv_aload_n hx hb dX3_init_0 rfl (lv_at hl 0 rfl) ?_
  refine W.objInit hx hb C.hown (C.hts _ q158) (C.hts _ q71) (C.hts _ q72) rfl (by rw [C.hml]; exact hl.1) rfl dX3_init_1 (Nat.le_of_ble_eq_true rfl) (Nat.le_of_ble_eq_true rfl) ?_
  refine W.eq (g2 := F0 m 4 ls []) rfl ?_
  refine lv_aload_n hx hb dX3_init_4 rfl (lv_at hl 0 rfl) ?_
  refine lv_bipush (v := 20) hx hb dX3_init_5 (by decide) ?_
  refine tf_anew C hw 7 rfl q159 q160 20 rfl (by omega) (by first | exact Nat.le_of_ble_eq_true rfl | (show _ ≤ 2; omega)) (by first | exact Nat.le_of_ble_eq_true rfl | (show _ ≤ 40; omega)) dX3_init_7 (fun o7 H hq7 hw => ?_)
  obtain ⟨G1, hG1⟩ : ∃ Z, Z = va_up G o7 (some (.inl (dA 7, 20, .inr (.inr (.inr (.inr (fun _ => none))))))) := ⟨_, rfl⟩
  have hw := tf_ren hG1 hw
  have f1_a : G1 a = some (.inr (3, [.int 0, .int 0, .null, .int 0, .null, .int 0])) := by rw [hG1]; exact tf_old hq7 ha
  have f1_o7 : G1 o7 = some (.inl (dA 7, 20, .inr (.inr (.inr (.inr (fun _ => none)))))) := by rw [hG1]; exact va_up_self _ _ _
  refine pf_X3_11 C hin hw f1_a o7 (by simp) dX3_init_10 (fun H locs hw => ?_)
  obtain ⟨G2, hG2⟩ : ∃ Z, Z = va_up G1 a (some (.inr (3, [.int 0, .int 0, .ref o7, .int 0, .null, .int 0]))) := ⟨_, rfl⟩
  have hw := tf_ren hG2 hw
  have f2_o7 : G2 o7 = some (.inl (dA 7, 20, .inr (.inr (.inr (.inr (fun _ => none)))))) := by rw [hG2]; exact tf_keep (tf_ne f1_a f1_o7 (by intro h; cases h)) f1_o7
  have f2_a : G2 a = some (.inr (3, [.int 0, .int 0, .ref o7, .int 0, .null, .int 0])) := by rw [hG2]; exact va_up_self _ _ _
  refine lv_aload_n hx hb dX3_init_13 rfl (lv_at hl 0 rfl) ?_
  refine lv_bipush (v := 20) hx hb dX3_init_14 (by decide) ?_
  refine tf_anew C hw 7 rfl q159 q160 20 rfl (by omega) (by first | exact Nat.le_of_ble_eq_true rfl | (show _ ≤ 2; omega)) (by first | exact Nat.le_of_ble_eq_true rfl | (show _ ≤ 40; omega)) dX3_init_16 (fun o16 H hq16 hw => ?_)
  obtain ⟨G3, hG3⟩ : ∃ Z, Z = va_up G2 o16 (some (.inl (dA 7, 20, .inr (.inr (.inr (.inr (fun _ => none))))))) := ⟨_, rfl⟩
  have hw := tf_ren hG3 hw
  have f3_o7 : G3 o7 = some (.inl (dA 7, 20, .inr (.inr (.inr (.inr (fun _ => none)))))) := by rw [hG3]; exact tf_old hq16 f2_o7
  have f3_a : G3 a = some (.inr (3, [.int 0, .int 0, .ref o7, .int 0, .null, .int 0])) := by rw [hG3]; exact tf_old hq16 f2_a
  have f3_o16 : G3 o16 = some (.inl (dA 7, 20, .inr (.inr (.inr (.inr (fun _ => none)))))) := by rw [hG3]; exact va_up_self _ _ _
  refine pf_X3_17 C hin hw f3_a o16 (by simp) dX3_init_19 (fun H locs hw => ?_)
  obtain ⟨G4, hG4⟩ : ∃ Z, Z = va_up G3 a (some (.inr (3, [.int 0, .int 0, .ref o7, .int 0, .ref o16, .int 0]))) := ⟨_, rfl⟩
  have hw := tf_ren hG4 hw
  have f4_o7 : G4 o7 = some (.inl (dA 7, 20, .inr (.inr (.inr (.inr (fun _ => none)))))) := by rw [hG4]; exact tf_keep (tf_ne f3_a f3_o7 (by intro h; cases h)) f3_o7
  have f4_o16 : G4 o16 = some (.inl (dA 7, 20, .inr (.inr (.inr (.inr (fun _ => none)))))) := by rw [hG4]; exact tf_keep (tf_ne f3_a f3_o16 (by intro h; cases h)) f3_o16
  have f4_a : G4 a = some (.inr (3, [.int 0, .int 0, .ref o7, .int 0, .ref o16, .int 0])) := by rw [hG4]; exact va_up_self _ _ _
  refine lv_aload_n hx hb dX3_init_22 rfl (lv_at hl 0 rfl) ?_
  refine lv_iload_n hx hb dX3_init_23 rfl (lv_at hl 1 rfl) ?_
  refine pf_X3_20 C hin hw f4_a x (by simp) dX3_init_24 (fun H locs hw => ?_)
  obtain ⟨G5, hG5⟩ : ∃ Z, Z = va_up G4 a (some (.inr (3, [.int x, .int 0, .ref o7, .int 0, .ref o16, .int 0]))) := ⟨_, rfl⟩
  have hw := tf_ren hG5 hw
  have f5_o7 : G5 o7 = some (.inl (dA 7, 20, .inr (.inr (.inr (.inr (fun _ => none)))))) := by rw [hG5]; exact tf_keep (tf_ne f4_a f4_o7 (by intro h; cases h)) f4_o7
  have f5_o16 : G5 o16 = some (.inl (dA 7, 20, .inr (.inr (.inr (.inr (fun _ => none)))))) := by rw [hG5]; exact tf_keep (tf_ne f4_a f4_o16 (by intro h; cases h)) f4_o16
  have f5_a : G5 a = some (.inr (3, [.int x, .int 0, .ref o7, .int 0, .ref o16, .int 0])) := by rw [hG5]; exact va_up_self _ _ _
  refine lv_aload_n hx hb dX3_init_27 rfl (lv_at hl 0 rfl) ?_
  refine lv_iload_n hx hb dX3_init_28 rfl (lv_at hl 2 rfl) ?_
  refine pf_X3_24 C hin hw f5_a y (by simp) dX3_init_29 (fun H locs hw => ?_)
  obtain ⟨G6, hG6⟩ : ∃ Z, Z = va_up G5 a (some (.inr (3, [.int x, .int y, .ref o7, .int 0, .ref o16, .int 0]))) := ⟨_, rfl⟩
  have hw := tf_ren hG6 hw
  have f6_o7 : G6 o7 = some (.inl (dA 7, 20, .inr (.inr (.inr (.inr (fun _ => none)))))) := by rw [hG6]; exact tf_keep (tf_ne f5_a f5_o7 (by intro h; cases h)) f5_o7
  have f6_o16 : G6 o16 = some (.inl (dA 7, 20, .inr (.inr (.inr (.inr (fun _ => none)))))) := by rw [hG6]; exact tf_keep (tf_ne f5_a f5_o16 (by intro h; cases h)) f5_o16
  have f6_a : G6 a = some (.inr (3, [.int x, .int y, .ref o7, .int 0, .ref o16, .int 0])) := by rw [hG6]; exact va_up_self _ _ _
  refine tf_retv C hw hr hlk dX3_init_32 (by first | exact Nat.le_of_ble_eq_true rfl | omega) (by first | exact Nat.le_of_ble_eq_true rfl | omega) ?_
  refine ⟨o7, o16, hq7, ?_, ?_, f6_a, f6_o7, f6_o16, fun b h1 h2 h3 => ?_⟩
  · exact tf_none (by rw [← hG1]; exact tf_none (by rw [← hG2]; exact hq16))
  · exact fun z => by rw [← z, f2_o7] at hq16; cases hq16
  · rw [hG6, va_up_ne _ _ h1, hG5, va_up_ne _ _ h1, hG4, va_up_ne _ _ h1, hG3, va_up_ne _ _ h3, hG2, va_up_ne _ _ h1, hG1, va_up_ne _ _ h2]

set_option maxHeartbeats 4000000 in
set_option maxRecDepth 100000 in
theorem metX3_clock {l : Launch} {S0 : State} {D : va_G} {dA : Nat → ClassId} (hB : tf_B S0 D dA) {sz : Nat} {G : tf_Pic} {a : Nat} {x y : Int32} {ca da n n2 : Nat} {rr : Nat → Option Nat} (ha : G a = some (.inr (3, [.int x, .int y, .ref ca, .int (nI n), .ref da, .int (nI n2)]))) (hr0 : G ca = some (.inl (dA 7, 20, .inr (.inr (.inr (.inr rr)))))) (hlt : n < 20) (v w : Int32) : Met l yX3_clock (ws_ yX3_clock cX3_clock 3 none) (tf_rm 2 1 2) (tf_Pc S0 D sz G [.ref a, .int v, .int w]) (tf_Qv S0 D sz G (fun G1 => ∃ q : Nat, G q = none ∧ G1 q = some (.inr (8, [.int v, .int w])) ∧ G1 ca = some (.inl (dA 7, 20, .inr (.inr (.inr (.inr (va_up rr n (some q))))))) ∧ G1 a = some (.inr (3, [.int x, .int y, .ref ca, .int (nI (n + 1)), .ref da, .int (nI n2)])) ∧ ∀ b, b ≠ a → b ≠ ca → b ≠ q → G1 b = G b)) 1 2 (tf_A G sz) := by
  refine Met.ofW (cc := cX3_clock) (maxL := 3) (ret := none) (by decide) rfl ?_
  intro p e s m args below meth c s₁ B hml hv
  obtain ⟨C, hw, hr, hlk, hin, hargs⟩ := tf_enter hB B hml hv
  subst hargs
  have C : tf_C p s m ([.ref a, .int v, .int w] : List Value).toArray c cX3_clock 3 RX3 S0 D dA := C
  have hx := C.hx
  have hb := C.hb
  change W p l e (tf_rm 2 1 2) s m ([.ref a, .int v, .int w] : List Value).toArray below meth c s.heap [] 0 0 (MQ below (tf_Qv S0 D sz G (fun G1 => ∃ q : Nat, G q = none ∧ G1 q = some (.inr (8, [.int v, .int w])) ∧ G1 ca = some (.inl (dA 7, 20, .inr (.inr (.inr (.inr (va_up rr n (some q))))))) ∧ G1 a = some (.inr (3, [.int x, .int y, .ref ca, .int (nI (n + 1)), .ref da, .int (nI n2)])) ∧ ∀ b, b ≠ a → b ≠ ca → b ≠ q → G1 b = G b)) ([.ref a, .int v, .int w] : List Value).toArray s 1 2 (tf_A G sz)) (entryFrame m ([.ref a, .int v, .int w] : List Value).toArray 3)
  refine tf_start [.ref a, .int v, .int w] (Nat.le_of_ble_eq_true rfl) (fun ls hl => ?_)
  have hl : lv_has ls 3 [(0, .ref a), (1, .int v), (2, .int w)] := hl
  refine lv_aload_n hx hb dX3_clock_0 rfl (lv_at hl 0 rfl) ?_
  refine gf_X3_11 C hw ha rfl dX3_clock_1 ?_
  refine lv_aload_n hx hb dX3_clock_4 rfl (lv_at hl 0 rfl) ?_
  refine gf_X3_27 C hw ha rfl dX3_clock_5 ?_
  refine tf_new C hw 8 (fs := [.int 0, .int 0]) rfl in_X8 tyX8 tyX8_ok q159 q196 q61 (fun j hj => by rcases (show j = 0 ∨ j = 1 by omega) with rfl | rfl <;> rfl) (by first | exact Nat.le_of_ble_eq_true rfl | (show _ ≤ 1; omega)) (by first | exact Nat.le_of_ble_eq_true rfl | (show _ ≤ 2; omega)) dX3_clock_8 (fun o8 H hq8 hw => ?_)
  obtain ⟨G1, hG1⟩ : ∃ Z, Z = va_up G o8 (some (.inr (8, [.int 0, .int 0]))) := ⟨_, rfl⟩
  have hw := tf_ren hG1 hw
  have f1_a : G1 a = some (.inr (3, [.int x, .int y, .ref ca, .int (nI n), .ref da, .int (nI n2)])) := by rw [hG1]; exact tf_old hq8 ha
  have f1_ca : G1 ca = some (.inl (dA 7, 20, .inr (.inr (.inr (.inr rr))))) := by rw [hG1]; exact tf_old hq8 hr0
  have f1_o8 : G1 o8 = some (.inr (8, [.int 0, .int 0])) := by rw [hG1]; exact va_up_self _ _ _
  refine lv_dup hx hb dX3_clock_11 rfl ?_
  refine lv_iload_n hx hb dX3_clock_12 rfl (lv_at hl 1 rfl) ?_
  refine lv_iload_n hx hb dX3_clock_13 rfl (lv_at hl 2 rfl) ?_
  refine tf_gov (tf_I (n := 2) C hw [.int v, .int w] (metX8_init hB o8 v w _ _ f1_o8) q199 q61 q197 q198 rfl ⟨by decide, by decide, by decide +kernel⟩ ⟨rfl, rfl, Nat.le_of_ble_eq_true rfl, Nat.le_of_ble_eq_true rfl, (by first | exact Nat.le_of_ble_eq_true rfl | (show _ ≤ 1; omega)), (by first | exact Nat.le_of_ble_eq_true rfl | (show _ ≤ 2; omega))⟩ rfl hl rfl (Nat.le_of_ble_eq_true rfl) dX3_clock_14) hw (fun G2 H locs hp2 hw => ?_)
  have f2_a : G2 a = some (.inr (3, [.int x, .int y, .ref ca, .int (nI n), .ref da, .int (nI n2)])) := by rw [hp2]; exact tf_keep (tf_ne f1_o8 f1_a (by intro h; cases h)) f1_a
  have f2_ca : G2 ca = some (.inl (dA 7, 20, .inr (.inr (.inr (.inr rr))))) := by rw [hp2]; exact tf_keep (tf_ne f1_o8 f1_ca (by intro h; cases h)) f1_ca
  have f2_o8 : G2 o8 = some (.inr (8, [.int v, .int w])) := by rw [hp2]; exact va_up_self _ _ _
  refine tf_aast C hw 7 8 rfl rfl f2_ca n rfl (by omega) (by decide) f2_o8 dX3_clock_17 (fun H locs hw => ?_)
  obtain ⟨G3, hG3⟩ : ∃ Z, Z = va_up G2 ca (some (.inl (dA 7, 20, .inr (.inr (.inr (.inr (va_up rr n (some o8)))))))) := ⟨_, rfl⟩
  have hw := tf_ren hG3 hw
  have f3_a : G3 a = some (.inr (3, [.int x, .int y, .ref ca, .int (nI n), .ref da, .int (nI n2)])) := by rw [hG3]; exact tf_keep (tf_ne f2_ca f2_a (by intro h; cases h)) f2_a
  have f3_o8 : G3 o8 = some (.inr (8, [.int v, .int w])) := by rw [hG3]; exact tf_keep (tf_ne f2_ca f2_o8 (by intro h; cases h)) f2_o8
  have f3_ca : G3 ca = some (.inl (dA 7, 20, .inr (.inr (.inr (.inr (va_up rr n (some o8))))))) := by rw [hG3]; exact va_up_self _ _ _
  refine lv_aload_n hx hb dX3_clock_18 rfl (lv_at hl 0 rfl) ?_
  refine lv_dup hx hb dX3_clock_19 rfl ?_
  refine gf_X3_27 C hw f3_a rfl dX3_clock_20 ?_
  refine lv_iconst (v := 1) hx hb dX3_clock_23 (by decide) ?_
  refine tf_iaddN hx hb n 1 rfl rfl dX3_clock_24 ?_
  refine pf_X3_27 C hw f3_a (nI (n + 1)) (by simp) dX3_clock_25 (fun H locs hw => ?_)
  obtain ⟨G4, hG4⟩ : ∃ Z, Z = va_up G3 a (some (.inr (3, [.int x, .int y, .ref ca, .int (nI (n + 1)), .ref da, .int (nI n2)]))) := ⟨_, rfl⟩
  have hw := tf_ren hG4 hw
  have f4_o8 : G4 o8 = some (.inr (8, [.int v, .int w])) := by rw [hG4]; exact tf_keep (tf_ne f3_a f3_o8 (by intro h; cases h)) f3_o8
  have f4_ca : G4 ca = some (.inl (dA 7, 20, .inr (.inr (.inr (.inr (va_up rr n (some o8))))))) := by rw [hG4]; exact tf_keep (tf_ne f3_a f3_ca (by intro h; cases h)) f3_ca
  have f4_a : G4 a = some (.inr (3, [.int x, .int y, .ref ca, .int (nI (n + 1)), .ref da, .int (nI n2)])) := by rw [hG4]; exact va_up_self _ _ _
  exact tf_retv C hw hr hlk dX3_clock_28 (by first | exact Nat.le_of_ble_eq_true rfl | omega) (by first | exact Nat.le_of_ble_eq_true rfl | omega) (by refine ⟨o8, hq8, f4_o8, f4_ca, f4_a, fun b h1 h2 h3 => ?_⟩; rw [hG4, va_up_ne _ _ h1, hG3, va_up_ne _ _ h2, hp2, va_up_ne _ _ h3, hG1, va_up_ne _ _ h3])

set_option maxHeartbeats 4000000 in
set_option maxRecDepth 100000 in
theorem metX3_down {l : Launch} {S0 : State} {D : va_G} {dA : Nat → ClassId} (hB : tf_B S0 D dA) {sz : Nat} {G : tf_Pic} {a : Nat} {x y : Int32} {ca da n n2 : Nat} {rr : Nat → Option Nat} (ha : G a = some (.inr (3, [.int x, .int y, .ref ca, .int (nI n), .ref da, .int (nI n2)]))) (hr0 : G da = some (.inl (dA 7, 20, .inr (.inr (.inr (.inr rr)))))) (hlt : n2 < 20) (v w : Int32) : Met l yX3_down (ws_ yX3_down cX3_down 3 none) (tf_rm 2 1 2) (tf_Pc S0 D sz G [.ref a, .int v, .int w]) (tf_Qv S0 D sz G (fun G1 => ∃ q : Nat, G q = none ∧ G1 q = some (.inr (8, [.int v, .int w])) ∧ G1 da = some (.inl (dA 7, 20, .inr (.inr (.inr (.inr (va_up rr n2 (some q))))))) ∧ G1 a = some (.inr (3, [.int x, .int y, .ref ca, .int (nI n), .ref da, .int (nI (n2 + 1))])) ∧ ∀ b, b ≠ a → b ≠ da → b ≠ q → G1 b = G b)) 1 2 (tf_A G sz) := by
  refine Met.ofW (cc := cX3_down) (maxL := 3) (ret := none) (by decide) rfl ?_
  intro p e s m args below meth c s₁ B hml hv
  obtain ⟨C, hw, hr, hlk, hin, hargs⟩ := tf_enter hB B hml hv
  subst hargs
  have C : tf_C p s m ([.ref a, .int v, .int w] : List Value).toArray c cX3_down 3 RX3 S0 D dA := C
  have hx := C.hx
  have hb := C.hb
  change W p l e (tf_rm 2 1 2) s m ([.ref a, .int v, .int w] : List Value).toArray below meth c s.heap [] 0 0 (MQ below (tf_Qv S0 D sz G (fun G1 => ∃ q : Nat, G q = none ∧ G1 q = some (.inr (8, [.int v, .int w])) ∧ G1 da = some (.inl (dA 7, 20, .inr (.inr (.inr (.inr (va_up rr n2 (some q))))))) ∧ G1 a = some (.inr (3, [.int x, .int y, .ref ca, .int (nI n), .ref da, .int (nI (n2 + 1))])) ∧ ∀ b, b ≠ a → b ≠ da → b ≠ q → G1 b = G b)) ([.ref a, .int v, .int w] : List Value).toArray s 1 2 (tf_A G sz)) (entryFrame m ([.ref a, .int v, .int w] : List Value).toArray 3)
  refine tf_start [.ref a, .int v, .int w] (Nat.le_of_ble_eq_true rfl) (fun ls hl => ?_)
  have hl : lv_has ls 3 [(0, .ref a), (1, .int v), (2, .int w)] := hl
  refine lv_aload_n hx hb dX3_down_0 rfl (lv_at hl 0 rfl) ?_
  refine gf_X3_17 C hw ha rfl dX3_down_1 ?_
  refine lv_aload_n hx hb dX3_down_4 rfl (lv_at hl 0 rfl) ?_
  refine gf_X3_33 C hw ha rfl dX3_down_5 ?_
  refine tf_new C hw 8 (fs := [.int 0, .int 0]) rfl in_X8 tyX8 tyX8_ok q159 q196 q61 (fun j hj => by rcases (show j = 0 ∨ j = 1 by omega) with rfl | rfl <;> rfl) (by first | exact Nat.le_of_ble_eq_true rfl | (show _ ≤ 1; omega)) (by first | exact Nat.le_of_ble_eq_true rfl | (show _ ≤ 2; omega)) dX3_down_8 (fun o8 H hq8 hw => ?_)
  obtain ⟨G1, hG1⟩ : ∃ Z, Z = va_up G o8 (some (.inr (8, [.int 0, .int 0]))) := ⟨_, rfl⟩
  have hw := tf_ren hG1 hw
  have f1_a : G1 a = some (.inr (3, [.int x, .int y, .ref ca, .int (nI n), .ref da, .int (nI n2)])) := by rw [hG1]; exact tf_old hq8 ha
  have f1_da : G1 da = some (.inl (dA 7, 20, .inr (.inr (.inr (.inr rr))))) := by rw [hG1]; exact tf_old hq8 hr0
  have f1_o8 : G1 o8 = some (.inr (8, [.int 0, .int 0])) := by rw [hG1]; exact va_up_self _ _ _
  refine lv_dup hx hb dX3_down_11 rfl ?_
  refine lv_iload_n hx hb dX3_down_12 rfl (lv_at hl 1 rfl) ?_
  refine lv_iload_n hx hb dX3_down_13 rfl (lv_at hl 2 rfl) ?_
  refine tf_gov (tf_I (n := 2) C hw [.int v, .int w] (metX8_init hB o8 v w _ _ f1_o8) q199 q61 q197 q198 rfl ⟨by decide, by decide, by decide +kernel⟩ ⟨rfl, rfl, Nat.le_of_ble_eq_true rfl, Nat.le_of_ble_eq_true rfl, (by first | exact Nat.le_of_ble_eq_true rfl | (show _ ≤ 1; omega)), (by first | exact Nat.le_of_ble_eq_true rfl | (show _ ≤ 2; omega))⟩ rfl hl rfl (Nat.le_of_ble_eq_true rfl) dX3_down_14) hw (fun G2 H locs hp2 hw => ?_)
  have f2_a : G2 a = some (.inr (3, [.int x, .int y, .ref ca, .int (nI n), .ref da, .int (nI n2)])) := by rw [hp2]; exact tf_keep (tf_ne f1_o8 f1_a (by intro h; cases h)) f1_a
  have f2_da : G2 da = some (.inl (dA 7, 20, .inr (.inr (.inr (.inr rr))))) := by rw [hp2]; exact tf_keep (tf_ne f1_o8 f1_da (by intro h; cases h)) f1_da
  have f2_o8 : G2 o8 = some (.inr (8, [.int v, .int w])) := by rw [hp2]; exact va_up_self _ _ _
  refine tf_aast C hw 7 8 rfl rfl f2_da n2 rfl (by omega) (by decide) f2_o8 dX3_down_17 (fun H locs hw => ?_)
  obtain ⟨G3, hG3⟩ : ∃ Z, Z = va_up G2 da (some (.inl (dA 7, 20, .inr (.inr (.inr (.inr (va_up rr n2 (some o8)))))))) := ⟨_, rfl⟩
  have hw := tf_ren hG3 hw
  have f3_a : G3 a = some (.inr (3, [.int x, .int y, .ref ca, .int (nI n), .ref da, .int (nI n2)])) := by rw [hG3]; exact tf_keep (tf_ne f2_da f2_a (by intro h; cases h)) f2_a
  have f3_o8 : G3 o8 = some (.inr (8, [.int v, .int w])) := by rw [hG3]; exact tf_keep (tf_ne f2_da f2_o8 (by intro h; cases h)) f2_o8
  have f3_da : G3 da = some (.inl (dA 7, 20, .inr (.inr (.inr (.inr (va_up rr n2 (some o8))))))) := by rw [hG3]; exact va_up_self _ _ _
  refine lv_aload_n hx hb dX3_down_18 rfl (lv_at hl 0 rfl) ?_
  refine lv_dup hx hb dX3_down_19 rfl ?_
  refine gf_X3_33 C hw f3_a rfl dX3_down_20 ?_
  refine lv_iconst (v := 1) hx hb dX3_down_23 (by decide) ?_
  refine tf_iaddN hx hb n2 1 rfl rfl dX3_down_24 ?_
  refine pf_X3_33 C hw f3_a (nI (n2 + 1)) (by simp) dX3_down_25 (fun H locs hw => ?_)
  obtain ⟨G4, hG4⟩ : ∃ Z, Z = va_up G3 a (some (.inr (3, [.int x, .int y, .ref ca, .int (nI n), .ref da, .int (nI (n2 + 1))]))) := ⟨_, rfl⟩
  have hw := tf_ren hG4 hw
  have f4_o8 : G4 o8 = some (.inr (8, [.int v, .int w])) := by rw [hG4]; exact tf_keep (tf_ne f3_a f3_o8 (by intro h; cases h)) f3_o8
  have f4_da : G4 da = some (.inl (dA 7, 20, .inr (.inr (.inr (.inr (va_up rr n2 (some o8))))))) := by rw [hG4]; exact tf_keep (tf_ne f3_a f3_da (by intro h; cases h)) f3_da
  have f4_a : G4 a = some (.inr (3, [.int x, .int y, .ref ca, .int (nI n), .ref da, .int (nI (n2 + 1))])) := by rw [hG4]; exact va_up_self _ _ _
  exact tf_retv C hw hr hlk dX3_down_28 (by first | exact Nat.le_of_ble_eq_true rfl | omega) (by first | exact Nat.le_of_ble_eq_true rfl | omega) (by refine ⟨o8, hq8, f4_o8, f4_da, f4_a, fun b h1 h2 h3 => ?_⟩; rw [hG4, va_up_ne _ _ h1, hG3, va_up_ne _ _ h2, hp2, va_up_ne _ _ h3, hG1, va_up_ne _ _ h3])
