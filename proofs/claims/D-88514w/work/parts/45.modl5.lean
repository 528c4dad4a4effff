/-! MODULE TankFieldModel, part 5: members, fronts, errors -/
set_option maxRecDepth 100000
def pm_mem (kf : Nat → Nat) (ne : Nat) (e i : Int32) : Bool := pm_of e (nI ne) && pm_of i (nI (kf (e.toNatClampNeg + 1) - kf e.toNatClampNeg))

set_option maxHeartbeats 4000000 in
set_option maxRecDepth 100000 in
theorem metX2_isMember {l : Launch} {S0 : State} {D : va_G} {dA : Nat → ClassId} (hB : tf_B S0 D dA) {sz : Nat} {G : tf_Pic} {mm : Nat} {ad : Nat → Nat} {iv : Nat → Int32} {ar : Nat → Nat → Int32} {fr : Nat → Int64} (hm : mo_W dA mm ad iv ar fr G) {nT nh nc nd ne nk : Nat} {hT kf kh : Nat → Nat} (hI : mo_I iv ar nT nh nc nd ne nk hT kf kh) (e0 i : Int32) : Met l yX2_isMember (ws_ yX2_isMember cX2_isMember 3 (some .boolean)) (tf_rm 2 0 0) (tf_Pc S0 D sz G [.ref mm, .int e0, .int i]) (tf_Qi S0 D sz G (fun r G1 => r = pt_b (pm_mem kf ne e0 i) ∧ G1 = G)) 0 0 (tf_A G sz) := by
  refine Met.ofW (cc := cX2_isMember) (maxL := 3) (ret := (some .boolean)) (by decide) rfl ?_
  intro p e s m args below meth c s₁ B hml hv
  obtain ⟨C, hw, hr, hlk, hin, hargs⟩ := tf_enter hB B hml hv
  subst hargs
  have C : tf_C p s m ([.ref mm, .int e0, .int i] : List Value).toArray c cX2_isMember 3 RX2 S0 D dA := C
  have hx := C.hx
  have hb := C.hb
  change W p l e (tf_rm 2 0 0) s m ([.ref mm, .int e0, .int i] : List Value).toArray below meth c s.heap [] 0 0 (MQ below (tf_Qi S0 D sz G (fun r G1 => r = pt_b (pm_mem kf ne e0 i) ∧ G1 = G)) ([.ref mm, .int e0, .int i] : List Value).toArray s 0 0 (tf_A G sz)) (entryFrame m ([.ref mm, .int e0, .int i] : List Value).toArray 3)
  have hI0 := hI
  obtain ⟨hk2, hnT, hk5, hnh, h6, hk10, hnc, hk14, hnd, hk30, hne, hk31, hnk, h32, hkf0, hkfn, hkfs, h33⟩ := hI
  refine tf_start [.ref mm, .int e0, .int i] (Nat.le_of_ble_eq_true rfl) (fun ls hl => ?_)
  have hl : lv_has ls 3 [(0, .ref mm), (1, .int e0), (2, .int i)] := hl
  refine lv_aload_n hx hb dX2_isMember_0 rfl (lv_at hl 0 rfl) ?_
  refine lv_iload_n hx hb dX2_isMember_1 rfl (lv_at hl 1 rfl) ?_
  refine tf_goi (tf_V (n := 1) C hw hm.1 rfl [.int e0] (metX2_isEvent hB hm e0) (lw_V q1168 q1170 qs35 q45 q1171) rfl ⟨by decide, by decide, by decide +kernel⟩ ⟨rfl, rfl, Nat.le_of_ble_eq_true rfl, Nat.le_of_ble_eq_true rfl, (by first | exact Nat.le_of_ble_eq_true rfl | (show _ ≤ 0; omega)), (by first | exact Nat.le_of_ble_eq_true rfl | (show _ ≤ 0; omega))⟩ rfl hl rfl (Nat.le_of_ble_eq_true rfl) dX2_isMember_2) hw (fun r1 G1 H locs hp1 hw => ?_)
  obtain ⟨hre, hGe⟩ := hp1
  have hre : r1 = pt_b (pm_of e0 (iv 30)) := hre
  obtain rfl := hre.symm
  obtain rfl := hGe.symm
  refine lv_if_eq (tgt := 35) hx hb dX2_isMember_5 (by decide) (fun c5 => ?_) (fun c5 => ?_)
  · replace c5 := pt_b0 c5
    refine lv_iconst (v := 0) hx hb dX2_isMember_35 (by decide) ?_
    refine tf_retz C hw hr hlk dX2_isMember_36 (by first | exact Nat.le_of_ble_eq_true rfl | omega) (by first | exact Nat.le_of_ble_eq_true rfl | omega) (Or.inl rfl) ?_
    refine ⟨?_, rfl⟩
    rw [hk30] at c5
    simp [pm_mem, c5, pt_b]
  · replace c5 := pt_b1 c5
    have c_e := c5
    rw [hk30] at c_e
    obtain ⟨E, hE, hEe, hEc⟩ := pm_clof (by omega) c_e
    rw [hEe] at hl
    have hE1 := hkfs E hE
    have hE2 := mo_le hkfs (e := E + 1) hE
    refine lv_iload_n hx hb dX2_isMember_8 rfl (lv_at hl 2 rfl) ?_
    refine lv_if_lt (tgt := 35) hx hb dX2_isMember_9 (by decide) (fun c9 => ?_) (fun c9 => ?_)
    · refine lv_iconst (v := 0) hx hb dX2_isMember_35 (by decide) ?_
      refine tf_retz C hw hr hlk dX2_isMember_36 (by first | exact Nat.le_of_ble_eq_true rfl | omega) (by first | exact Nat.le_of_ble_eq_true rfl | omega) (Or.inl rfl) ?_
      refine ⟨?_, rfl⟩
      simp only [pm_mem, c_e, hEc, Bool.true_and]
      rw [pm_of_lo c9]
      rfl
    · refine lv_iload_n hx hb dX2_isMember_12 rfl (lv_at hl 2 rfl) ?_
      refine lv_aload_n hx hb dX2_isMember_13 rfl (lv_at hl 0 rfl) ?_
      refine gf_X2_76 C hw hm.1 (v := .ref (ad 32)) rfl dX2_isMember_14 ?_
      refine lv_iload_n hx hb dX2_isMember_17 rfl (lv_at hl 1 rfl) ?_
      refine lv_iconst (v := 1) hx hb dX2_isMember_18 (by decide) ?_
      refine tf_iaddN hx hb E 1 rfl rfl dX2_isMember_19 ?_
      refine mo_ald (v := nI (kf (E + 1))) C hw hm 32 (by decide) (by decide) (E + 1) rfl (show E + 1 < 241 by omega) (h32 (E + 1) (by omega)) dX2_isMember_20 ?_
      refine lv_aload_n hx hb dX2_isMember_21 rfl (lv_at hl 0 rfl) ?_
      refine gf_X2_76 C hw hm.1 (v := .ref (ad 32)) rfl dX2_isMember_22 ?_
      refine lv_iload_n hx hb dX2_isMember_25 rfl (lv_at hl 1 rfl) ?_
      refine mo_ald (v := nI (kf E)) C hw hm 32 (by decide) (by decide) E rfl (show E < 241 by omega) (h32 E (by omega)) dX2_isMember_26 ?_
      refine tf_isubN hx hb (kf (E + 1)) (kf E) rfl rfl (by omega) dX2_isMember_27 ?_
      refine lv_icmp_ge (tgt := 35) hx hb dX2_isMember_28 (by decide) (fun c28 => ?_) (fun c28 => ?_)
      · refine lv_iconst (v := 0) hx hb dX2_isMember_35 (by decide) ?_
        refine tf_retz C hw hr hlk dX2_isMember_36 (by first | exact Nat.le_of_ble_eq_true rfl | omega) (by first | exact Nat.le_of_ble_eq_true rfl | omega) (Or.inl rfl) ?_
        refine ⟨?_, rfl⟩
        simp only [pm_mem, c_e, hEc, Bool.true_and]
        rw [pm_of_hi c28]
        rfl
      · refine lv_iconst (v := 1) hx hb dX2_isMember_31 (by decide) ?_
        refine lv_goto (tgt := 36) hx hb dX2_isMember_32 (by decide) ?_
        refine tf_retz C hw hr hlk dX2_isMember_36 (by first | exact Nat.le_of_ble_eq_true rfl | omega) (by first | exact Nat.le_of_ble_eq_true rfl | omega) (Or.inr rfl) ?_
        refine ⟨?_, rfl⟩
        simp only [pm_mem, c_e, hEc, Bool.true_and]
        rw [pm_of_t c9 c28]
        rfl

def pm_member (kf kh : Nat → Nat) (ne : Nat) (e i : Int32) : Int32 := if pm_mem kf ne e i then nI (kh (kf e.toNatClampNeg + i.toNatClampNeg)) else -1

set_option maxHeartbeats 4000000 in
set_option maxRecDepth 100000 in
theorem metX2_member {l : Launch} {S0 : State} {D : va_G} {dA : Nat → ClassId} (hB : tf_B S0 D dA) {sz : Nat} {G : tf_Pic} {mm : Nat} {ad : Nat → Nat} {iv : Nat → Int32} {ar : Nat → Nat → Int32} {fr : Nat → Int64} (hm : mo_W dA mm ad iv ar fr G) {nT nh nc nd ne nk : Nat} {hT kf kh : Nat → Nat} (hI : mo_I iv ar nT nh nc nd ne nk hT kf kh) (e0 i : Int32) : Met l yX2_member (ws_ yX2_member cX2_member 3 (some .int)) (tf_rm 3 0 0) (tf_Pc S0 D sz G [.ref mm, .int e0, .int i]) (tf_Qi S0 D sz G (fun r G1 => r = pm_member kf kh ne e0 i ∧ G1 = G)) 0 0 (tf_A G sz) := by
  refine Met.ofW (cc := cX2_member) (maxL := 3) (ret := (some .int)) (by decide) rfl ?_
  intro p e s m args below meth c s₁ B hml hv
  obtain ⟨C, hw, hr, hlk, hin, hargs⟩ := tf_enter hB B hml hv
  subst hargs
  have C : tf_C p s m ([.ref mm, .int e0, .int i] : List Value).toArray c cX2_member 3 RX2 S0 D dA := C
  have hx := C.hx
  have hb := C.hb
  change W p l e (tf_rm 3 0 0) s m ([.ref mm, .int e0, .int i] : List Value).toArray below meth c s.heap [] 0 0 (MQ below (tf_Qi S0 D sz G (fun r G1 => r = pm_member kf kh ne e0 i ∧ G1 = G)) ([.ref mm, .int e0, .int i] : List Value).toArray s 0 0 (tf_A G sz)) (entryFrame m ([.ref mm, .int e0, .int i] : List Value).toArray 3)
  have hI0 := hI
  obtain ⟨hk2, hnT, hk5, hnh, h6, hk10, hnc, hk14, hnd, hk30, hne, hk31, hnk, h32, hkf0, hkfn, hkfs, h33⟩ := hI
  refine tf_start [.ref mm, .int e0, .int i] (Nat.le_of_ble_eq_true rfl) (fun ls hl => ?_)
  have hl : lv_has ls 3 [(0, .ref mm), (1, .int e0), (2, .int i)] := hl
  refine lv_aload_n hx hb dX2_member_0 rfl (lv_at hl 0 rfl) ?_
  refine lv_iload_n hx hb dX2_member_1 rfl (lv_at hl 1 rfl) ?_
  refine lv_iload_n hx hb dX2_member_2 rfl (lv_at hl 2 rfl) ?_
  refine tf_goi (tf_V (n := 2) C hw hm.1 rfl [.int e0, .int i] (metX2_isMember hB hm hI0 e0 i) (lw_V q1188 q1190 qs37 q45 q1191) rfl ⟨by decide, by decide, by decide +kernel⟩ ⟨rfl, rfl, Nat.le_of_ble_eq_true rfl, Nat.le_of_ble_eq_true rfl, (by first | exact Nat.le_of_ble_eq_true rfl | (show _ ≤ 0; omega)), (by first | exact Nat.le_of_ble_eq_true rfl | (show _ ≤ 0; omega))⟩ rfl hl rfl (Nat.le_of_ble_eq_true rfl) dX2_member_3) hw (fun r1 G1 H locs hp1 hw => ?_)
  obtain ⟨hre, hGe⟩ := hp1
  have hre : r1 = pt_b (pm_mem kf ne e0 i) := hre
  obtain rfl := hre.symm
  obtain rfl := hGe.symm
  refine lv_if_eq (tgt := 25) hx hb dX2_member_6 (by decide) (fun c6 => ?_) (fun c6 => ?_)
  · replace c6 := pt_b0 c6
    refine lv_iconst (v := (-1)) hx hb dX2_member_25 (by decide) ?_
    exact tf_reti C hw hr hlk dX2_member_26 (by first | exact Nat.le_of_ble_eq_true rfl | omega) (by first | exact Nat.le_of_ble_eq_true rfl | omega) (by refine ⟨?_, rfl⟩; simp [pm_member, c6])
  · replace c6 := pt_b1 c6
    have c_m := c6
    simp only [pm_mem, Bool.and_eq_true] at c_m
    obtain ⟨c_e, c_i⟩ := c_m
    obtain ⟨E, hE, hEe, hEc⟩ := pm_clof (by omega) c_e
    have hE1 := hkfs E hE
    have hE2 := mo_le hkfs (e := E + 1) hE
    rw [hEc] at c_i
    obtain ⟨I, hIb, hIe, hIc⟩ := pm_clof (by omega) c_i
    rw [hEe, hIe] at hl
    refine lv_aload_n hx hb dX2_member_9 rfl (lv_at hl 0 rfl) ?_
    refine gf_X2_79 C hw hm.1 (v := .ref (ad 33)) rfl dX2_member_10 ?_
    refine lv_aload_n hx hb dX2_member_13 rfl (lv_at hl 0 rfl) ?_
    refine gf_X2_76 C hw hm.1 (v := .ref (ad 32)) rfl dX2_member_14 ?_
    refine lv_iload_n hx hb dX2_member_17 rfl (lv_at hl 1 rfl) ?_
    refine mo_ald (v := nI (kf E)) C hw hm 32 (by decide) (by decide) E rfl (show E < 241 by omega) (h32 E (by omega)) dX2_member_18 ?_
    refine lv_iload_n hx hb dX2_member_19 rfl (lv_at hl 2 rfl) ?_
    refine tf_iaddN hx hb (kf E) I rfl rfl dX2_member_20 ?_
    refine mo_ald (v := nI (kh ((kf E) + I))) C hw hm 33 (by decide) (by decide) ((kf E) + I) rfl (show (kf E) + I < 240 by omega) (h33 ((kf E) + I) (by omega)).1 dX2_member_21 ?_
    refine lv_goto (tgt := 26) hx hb dX2_member_22 (by decide) ?_
    exact tf_reti C hw hr hlk dX2_member_26 (by first | exact Nat.le_of_ble_eq_true rfl | omega) (by first | exact Nat.le_of_ble_eq_true rfl | omega) (by refine ⟨?_, rfl⟩; simp [pm_member, c6, hEc, hIc])

set_option maxHeartbeats 4000000 in
set_option maxRecDepth 100000 in
theorem metX2_determinant {l : Launch} {S0 : State} {D : va_G} {dA : Nat → ClassId} (hB : tf_B S0 D dA) {sz : Nat} {G : tf_Pic} (a1 a2 a3 a4 a5 a6 a7 a8 a9 : Int64) : Met l yX2_determinant (ws_ yX2_determinant cX2_determinant 18 (some .long)) (tf_rm 1 0 0) (tf_Pc S0 D sz G [.long a1, .long a2, .long a3, .long a4, .long a5, .long a6, .long a7, .long a8, .long a9]) (tf_Ql S0 D sz G (fun r G1 => r = pm_det a1 a2 a3 a4 a5 a6 a7 a8 a9 ∧ G1 = G)) 0 0 (tf_A G sz) := by
  refine Met.ofW (cc := cX2_determinant) (maxL := 18) (ret := (some .long)) (by decide) rfl ?_
  intro p e s m args below meth c s₁ B hml hv
  obtain ⟨C, hw, hr, hlk, hin, hargs⟩ := tf_enter hB B hml hv
  subst hargs
  have C : tf_C p s m ([.long a1, .long a2, .long a3, .long a4, .long a5, .long a6, .long a7, .long a8, .long a9] : List Value).toArray c cX2_determinant 18 RX2 S0 D dA := C
  have hx := C.hx
  have hb := C.hb
  change W p l e (tf_rm 1 0 0) s m ([.long a1, .long a2, .long a3, .long a4, .long a5, .long a6, .long a7, .long a8, .long a9] : List Value).toArray below meth c s.heap [] 0 0 (MQ below (tf_Ql S0 D sz G (fun r G1 => r = pm_det a1 a2 a3 a4 a5 a6 a7 a8 a9 ∧ G1 = G)) ([.long a1, .long a2, .long a3, .long a4, .long a5, .long a6, .long a7, .long a8, .long a9] : List Value).toArray s 0 0 (tf_A G sz)) (entryFrame m ([.long a1, .long a2, .long a3, .long a4, .long a5, .long a6, .long a7, .long a8, .long a9] : List Value).toArray 18)
  refine tf_start [.long a1, .long a2, .long a3, .long a4, .long a5, .long a6, .long a7, .long a8, .long a9] (Nat.le_of_ble_eq_true rfl) (fun ls hl => ?_)
  have hl : lv_has ls 18 [(0, .long a1), (2, .long a2), (4, .long a3), (6, .long a4), (8, .long a5), (10, .long a6), (12, .long a7), (14, .long a8), (16, .long a9)] := hl
  refine lv_lload_n hx hb dX2_determinant_0 rfl (lv_at hl 0 rfl) ?_
  refine lv_lload hx hb dX2_determinant_1 (lv_at hl 4 rfl) ?_
  refine lv_lload hx hb dX2_determinant_3 (lv_at hl 8 rfl) ?_
  refine lv_lmul hx hb dX2_determinant_5 ?_
  refine lv_lload hx hb dX2_determinant_6 (lv_at hl 5 rfl) ?_
  refine lv_lload hx hb dX2_determinant_8 (lv_at hl 7 rfl) ?_
  refine lv_lmul hx hb dX2_determinant_10 ?_
  refine lv_lsub hx hb dX2_determinant_11 ?_
  refine lv_lmul hx hb dX2_determinant_12 ?_
  refine lv_lload_n hx hb dX2_determinant_13 rfl (lv_at hl 1 rfl) ?_
  refine lv_lload hx hb dX2_determinant_14 (lv_at hl 3 rfl) ?_
  refine lv_lload hx hb dX2_determinant_16 (lv_at hl 8 rfl) ?_
  refine lv_lmul hx hb dX2_determinant_18 ?_
  refine lv_lload hx hb dX2_determinant_19 (lv_at hl 5 rfl) ?_
  refine lv_lload hx hb dX2_determinant_21 (lv_at hl 6 rfl) ?_
  refine lv_lmul hx hb dX2_determinant_23 ?_
  refine lv_lsub hx hb dX2_determinant_24 ?_
  refine lv_lmul hx hb dX2_determinant_25 ?_
  refine lv_lsub hx hb dX2_determinant_26 ?_
  refine lv_lload hx hb dX2_determinant_27 (lv_at hl 2 rfl) ?_
  refine lv_lload hx hb dX2_determinant_29 (lv_at hl 3 rfl) ?_
  refine lv_lload hx hb dX2_determinant_31 (lv_at hl 7 rfl) ?_
  refine lv_lmul hx hb dX2_determinant_33 ?_
  refine lv_lload hx hb dX2_determinant_34 (lv_at hl 4 rfl) ?_
  refine lv_lload hx hb dX2_determinant_36 (lv_at hl 6 rfl) ?_
  refine lv_lmul hx hb dX2_determinant_38 ?_
  refine lv_lsub hx hb dX2_determinant_39 ?_
  refine lv_lmul hx hb dX2_determinant_40 ?_
  refine lv_ladd hx hb dX2_determinant_41 ?_
  exact tf_retl C hw hr hlk dX2_determinant_42 (by first | exact Nat.le_of_ble_eq_true rfl | omega) (by first | exact Nat.le_of_ble_eq_true rfl | omega) (by exact ⟨rfl, rfl⟩)

/-- of the event from a on: the members' places and times -/
def pm_X (ar : Nat → Nat → Int32) (hT kh : Nat → Nat) (a j : Nat) : Int64 := (ar 3 (hT (kh (a + j)))).toInt64
def pm_Y (ar : Nat → Nat → Int32) (hT kh : Nat → Nat) (a j : Nat) : Int64 := (ar 4 (hT (kh (a + j)))).toInt64
def pm_T (ar : Nat → Nat → Int32) (a m j : Nat) : Int64 := (ar 34 (a + j) - pm_leastL (ar 34) a m).toInt64
def pm_Fr (ar : Nat → Nat → Int32) (hT kh : Nat → Nat) (a m k : Nat) : Int64 := pm_front (pm_X ar hT kh a) (pm_Y ar hT kh a) (pm_T ar a m) m k
/-- the array behind makeFront -/
def pm_frA (fr : Nat → Int64) (F : Nat → Int64) : Nat → Int64 := vp_updL (vp_updL (vp_updL (vp_updL fr 0 (F 0)) 1 (F 1)) 2 (F 2)) 3 (F 3)
theorem pm_frA_at (fr F : Nat → Int64) {k : Nat} (h : k < 4) : pm_frA fr F k = F k := by
  rcases (show k = 0 ∨ k = 1 ∨ k = 2 ∨ k = 3 by omega) with h | h | h | h <;> (subst h; simp [pm_frA, vp_updL])

set_option maxHeartbeats 8000000 in
set_option maxRecDepth 100000 in
theorem metX2_makeFront {l : Launch} {S0 : State} {D : va_G} {dA : Nat → ClassId} (hB : tf_B S0 D dA) {sz : Nat} {G : tf_Pic} {mm : Nat} {ad : Nat → Nat} {iv : Nat → Int32} {ar : Nat → Nat → Int32} {fr : Nat → Int64} (hm : mo_W dA mm ad iv ar fr G) {nT nh nc nd ne nk : Nat} {hT kf kh : Nat → Nat} (hI : mo_I iv ar nT nh nc nd ne nk hT kf kh) {E : Nat} (hE : E < ne) : Met l yX2_makeFront (ws_ yX2_makeFront cX2_makeFront 28 none) (tf_rm 2 0 0) (tf_Pc S0 D sz G [.ref mm, .int (nI E)]) (tf_Qv S0 D sz G (fun G1 => mo_W dA mm ad iv ar (pm_frA fr (pm_Fr ar hT kh (kf E) (kf (E + 1) - kf E))) G1)) 0 0 (tf_A G sz) := by
  refine Met.ofW (cc := cX2_makeFront) (maxL := 28) (ret := none) (by decide) rfl ?_
  intro p e s m args below meth c s₁ B hml hv
  obtain ⟨C, hw, hr, hlk, hin, hargs⟩ := tf_enter hB B hml hv
  subst hargs
  have C : tf_C p s m ([.ref mm, .int (nI E)] : List Value).toArray c cX2_makeFront 28 RX2 S0 D dA := C
  have hx := C.hx
  have hb := C.hb
  change W p l e (tf_rm 2 0 0) s m ([.ref mm, .int (nI E)] : List Value).toArray below meth c s.heap [] 0 0 (MQ below (tf_Qv S0 D sz G (fun G1 => mo_W dA mm ad iv ar (pm_frA fr (pm_Fr ar hT kh (kf E) (kf (E + 1) - kf E))) G1)) ([.ref mm, .int (nI E)] : List Value).toArray s 0 0 (tf_A G sz)) (entryFrame m ([.ref mm, .int (nI E)] : List Value).toArray 28)
  have hI0 := hI
  obtain ⟨hk2, hnT, hk5, hnh, h6, hk10, hnc, hk14, hnd, hk30, hne, hk31, hnk, h32, hkf0, hkfn, hkfs, h33⟩ := hI
  have hE1 := hkfs E hE
  have hE2 := mo_le hkfs (e := E + 1) hE
  refine tf_start [.ref mm, .int (nI E)] (Nat.le_of_ble_eq_true rfl) (fun ls hl => ?_)
  have hl : lv_has ls 28 [(0, .ref mm), (1, .int (nI E))] := hl
  refine lv_lconst (v := 0) hx hb dX2_makeFront_0 (by decide) ?_
  refine lv_lstore_n (lv' := [(2, .long 0), (0, .ref mm), (1, .int (nI E))]) hx hb dX2_makeFront_1 rfl hl (by decide) rfl (fun ls hl => ?_)
  refine lv_lconst (v := 0) hx hb dX2_makeFront_2 (by decide) ?_
  refine lv_lstore (lv' := [(4, .long 0), (2, .long 0), (0, .ref mm), (1, .int (nI E))]) hx hb dX2_makeFront_3 hl (by decide) rfl (fun ls hl => ?_)
  refine lv_lconst (v := 0) hx hb dX2_makeFront_5 (by decide) ?_
  refine lv_lstore (lv' := [(6, .long 0), (4, .long 0), (2, .long 0), (0, .ref mm), (1, .int (nI E))]) hx hb dX2_makeFront_6 hl (by decide) rfl (fun ls hl => ?_)
  refine lv_lconst (v := 0) hx hb dX2_makeFront_8 (by decide) ?_
  refine lv_lstore (lv' := [(8, .long 0), (6, .long 0), (4, .long 0), (2, .long 0), (0, .ref mm), (1, .int (nI E))]) hx hb dX2_makeFront_9 hl (by decide) rfl (fun ls hl => ?_)
  refine lv_lconst (v := 0) hx hb dX2_makeFront_11 (by decide) ?_
  refine lv_lstore (lv' := [(10, .long 0), (8, .long 0), (6, .long 0), (4, .long 0), (2, .long 0), (0, .ref mm), (1, .int (nI E))]) hx hb dX2_makeFront_12 hl (by decide) rfl (fun ls hl => ?_)
  refine lv_lconst (v := 0) hx hb dX2_makeFront_14 (by decide) ?_
  refine lv_lstore (lv' := [(12, .long 0), (10, .long 0), (8, .long 0), (6, .long 0), (4, .long 0), (2, .long 0), (0, .ref mm), (1, .int (nI E))]) hx hb dX2_makeFront_15 hl (by decide) rfl (fun ls hl => ?_)
  refine lv_lconst (v := 0) hx hb dX2_makeFront_17 (by decide) ?_
  refine lv_lstore (lv' := [(14, .long 0), (12, .long 0), (10, .long 0), (8, .long 0), (6, .long 0), (4, .long 0), (2, .long 0), (0, .ref mm), (1, .int (nI E))]) hx hb dX2_makeFront_18 hl (by decide) rfl (fun ls hl => ?_)
  refine lv_lconst (v := 0) hx hb dX2_makeFront_20 (by decide) ?_
  refine lv_lstore (lv' := [(16, .long 0), (14, .long 0), (12, .long 0), (10, .long 0), (8, .long 0), (6, .long 0), (4, .long 0), (2, .long 0), (0, .ref mm), (1, .int (nI E))]) hx hb dX2_makeFront_21 hl (by decide) rfl (fun ls hl => ?_)
  refine lv_lconst (v := 0) hx hb dX2_makeFront_23 (by decide) ?_
  refine lv_lstore (lv' := [(18, .long 0), (16, .long 0), (14, .long 0), (12, .long 0), (10, .long 0), (8, .long 0), (6, .long 0), (4, .long 0), (2, .long 0), (0, .ref mm), (1, .int (nI E))]) hx hb dX2_makeFront_24 hl (by decide) rfl (fun ls hl => ?_)
  refine lv_aload_n hx hb dX2_makeFront_26 rfl (lv_at hl 9 rfl) ?_
  refine lv_iload_n hx hb dX2_makeFront_27 rfl (lv_at hl 10 rfl) ?_
  refine tf_goi (tf_V (n := 1) C hw hm.1 rfl [.int (nI E)] (metX2_leastTime hB hm hI0 hE) (lw_V q1180 q1182 qs36 q45 q1183) rfl ⟨by decide, by decide, by decide +kernel⟩ ⟨rfl, rfl, Nat.le_of_ble_eq_true rfl, Nat.le_of_ble_eq_true rfl, (by first | exact Nat.le_of_ble_eq_true rfl | (show _ ≤ 0; omega)), (by first | exact Nat.le_of_ble_eq_true rfl | (show _ ≤ 0; omega))⟩ rfl hl rfl (Nat.le_of_ble_eq_true rfl) dX2_makeFront_28) hw (fun r1 G1 H locs hp1 hw => ?_)
  obtain ⟨hre, hGe⟩ := hp1
  have hre : r1 = pm_leastL (ar 34) (kf E) (kf (E + 1) - kf E) := hre
  obtain rfl := hre.symm
  obtain rfl := hGe.symm
  refine lv_istore (lv' := [(20, .int (pm_leastL (ar 34) (kf E) (kf (E + 1) - kf E))), (18, .long 0), (16, .long 0), (14, .long 0), (12, .long 0), (10, .long 0), (8, .long 0), (6, .long 0), (4, .long 0), (2, .long 0), (0, .ref mm), (1, .int (nI E))]) hx hb dX2_makeFront_31 hl (by decide) rfl (fun ls hl => ?_)
  refine lv_aload_n hx hb dX2_makeFront_33 rfl (lv_at hl 10 rfl) ?_
  refine gf_X2_76 C hw hm.1 (v := .ref (ad 32)) rfl dX2_makeFront_34 ?_
  refine lv_iload_n hx hb dX2_makeFront_37 rfl (lv_at hl 11 rfl) ?_
  refine mo_ald (v := nI (kf E)) C hw hm 32 (by decide) (by decide) E rfl (show E < 241 by omega) (h32 E (by omega)) dX2_makeFront_38 ?_
  refine lv_istore (lv' := [(21, .int (nI (kf E))), (20, .int (pm_leastL (ar 34) (kf E) (kf (E + 1) - kf E))), (18, .long 0), (16, .long 0), (14, .long 0), (12, .long 0), (10, .long 0), (8, .long 0), (6, .long 0), (4, .long 0), (2, .long 0), (0, .ref mm), (1, .int (nI E))]) hx hb dX2_makeFront_39 hl (by decide) rfl (fun ls hl => ?_)
  have b41 : ∀ (fuel : Nat) (j : Nat), kf (E + 1) - kf E - j < fuel → (kf E + j ≤ kf (E + 1)) → ∀ (H : Heap) (locs : List Loc), tf_Wd S0 D (tf_A G sz) s.heap G H locs → ∀ (ls : Array Slot), lv_has ls 28 [(21, .int (nI (kf E + j))), (20, .int (pm_leastL (ar 34) (kf E) (kf (E + 1) - kf E))), (2, .long (pm_sum (fun _ => 1) j)), (4, .long (pm_sum (pm_X ar hT kh (kf E)) j)), (6, .long (pm_sum (pm_Y ar hT kh (kf E)) j)), (8, .long (pm_sum (fun j => pm_X ar hT kh (kf E) j * pm_X ar hT kh (kf E) j) j)), (10, .long (pm_sum (fun j => pm_X ar hT kh (kf E) j * pm_Y ar hT kh (kf E) j) j)), (12, .long (pm_sum (fun j => pm_Y ar hT kh (kf E) j * pm_Y ar hT kh (kf E) j) j)), (14, .long (pm_sum (pm_T ar (kf E) (kf (E + 1) - kf E)) j)), (16, .long (pm_sum (fun j => pm_T ar (kf E) (kf (E + 1) - kf E) j * pm_X ar hT kh (kf E) j) j)), (18, .long (pm_sum (fun j => pm_T ar (kf E) (kf (E + 1) - kf E) j * pm_Y ar hT kh (kf E) j) j)), (0, .ref mm), (1, .int (nI E))] → W p l e (tf_rm 2 0 0) s m ([.ref mm, .int (nI E)] : List Value).toArray below meth c H locs 0 0 (MQ below (tf_Qv S0 D sz G (fun G1 => mo_W dA mm ad iv ar (pm_frA fr (pm_Fr ar hT kh (kf E) (kf (E + 1) - kf E))) G1)) ([.ref mm, .int (nI E)] : List Value).toArray s 0 0 (tf_A G sz)) (F0 m 41 ls []) := by
    intro fuel41
    induction fuel41 with
    | zero => intro j hfu41; exact absurd hfu41 (Nat.not_lt_zero _)
    | succ fuel41 ih41 =>
      intro j hfu41 hj H locs hw ls hl
      refine lv_iload hx hb dX2_makeFront_41 (lv_at hl 0 rfl) ?_
      refine lv_aload_n hx hb dX2_makeFront_43 rfl (lv_at hl 11 rfl) ?_
      refine gf_X2_76 C hw hm.1 (v := .ref (ad 32)) rfl dX2_makeFront_44 ?_
      refine lv_iload_n hx hb dX2_makeFront_47 rfl (lv_at hl 12 rfl) ?_
      refine lv_iconst (v := 1) hx hb dX2_makeFront_48 (by decide) ?_
      refine tf_iaddN hx hb E 1 rfl rfl dX2_makeFront_49 ?_
      refine mo_ald (v := nI (kf (E + 1))) C hw hm 32 (by decide) (by decide) (E + 1) rfl (show E + 1 < 241 by omega) (h32 (E + 1) (by omega)) dX2_makeFront_50 ?_
      refine tf_icmp_geN hx hb (kf E + j) (kf (E + 1)) rfl rfl (tgt := 188) dX2_makeFront_51 (by decide) (by omega) (by omega) (fun c51 => ?_) (fun c51 => ?_)
      · have hjm : j = kf (E + 1) - kf E := by omega
        rw [hjm] at hl
        refine lv_aload_n hx hb dX2_makeFront_188 rfl (lv_at hl 11 rfl) ?_
        refine gf_X2_94 C hw hm.1 (v := .ref (ad 39)) rfl dX2_makeFront_189 ?_
        refine lv_iconst (v := 0) hx hb dX2_makeFront_192 (by decide) ?_
        refine lv_lload_n hx hb dX2_makeFront_193 rfl (lv_at hl 2 rfl) ?_
        refine lv_lload hx hb dX2_makeFront_194 (lv_at hl 3 rfl) ?_
        refine lv_lload hx hb dX2_makeFront_196 (lv_at hl 4 rfl) ?_
        refine lv_lload hx hb dX2_makeFront_198 (lv_at hl 3 rfl) ?_
        refine lv_lload hx hb dX2_makeFront_200 (lv_at hl 5 rfl) ?_
        refine lv_lload hx hb dX2_makeFront_202 (lv_at hl 6 rfl) ?_
        refine lv_lload hx hb dX2_makeFront_204 (lv_at hl 4 rfl) ?_
        refine lv_lload hx hb dX2_makeFront_206 (lv_at hl 6 rfl) ?_
        refine lv_lload hx hb dX2_makeFront_208 (lv_at hl 7 rfl) ?_
        refine tf_gol (tf_S (n := 9) C hw [.long (pm_sum (fun _ => 1) (kf (E + 1) - kf E)), .long (pm_sum (pm_X ar hT kh (kf E)) (kf (E + 1) - kf E)), .long (pm_sum (pm_Y ar hT kh (kf E)) (kf (E + 1) - kf E)), .long (pm_sum (pm_X ar hT kh (kf E)) (kf (E + 1) - kf E)), .long (pm_sum (fun j => pm_X ar hT kh (kf E) j * pm_X ar hT kh (kf E) j) (kf (E + 1) - kf E)), .long (pm_sum (fun j => pm_X ar hT kh (kf E) j * pm_Y ar hT kh (kf E) j) (kf (E + 1) - kf E)), .long (pm_sum (pm_Y ar hT kh (kf E)) (kf (E + 1) - kf E)), .long (pm_sum (fun j => pm_X ar hT kh (kf E) j * pm_Y ar hT kh (kf E) j) (kf (E + 1) - kf E)), .long (pm_sum (fun j => pm_Y ar hT kh (kf E) j * pm_Y ar hT kh (kf E) j) (kf (E + 1) - kf E))] (metX2_determinant hB (pm_sum (fun _ => 1) (kf (E + 1) - kf E)) (pm_sum (pm_X ar hT kh (kf E)) (kf (E + 1) - kf E)) (pm_sum (pm_Y ar hT kh (kf E)) (kf (E + 1) - kf E)) (pm_sum (pm_X ar hT kh (kf E)) (kf (E + 1) - kf E)) (pm_sum (fun j => pm_X ar hT kh (kf E) j * pm_X ar hT kh (kf E) j) (kf (E + 1) - kf E)) (pm_sum (fun j => pm_X ar hT kh (kf E) j * pm_Y ar hT kh (kf E) j) (kf (E + 1) - kf E)) (pm_sum (pm_Y ar hT kh (kf E)) (kf (E + 1) - kf E)) (pm_sum (fun j => pm_X ar hT kh (kf E) j * pm_Y ar hT kh (kf E) j) (kf (E + 1) - kf E)) (pm_sum (fun j => pm_Y ar hT kh (kf E) j * pm_Y ar hT kh (kf E) j) (kf (E + 1) - kf E))) (lw_S q1200 q1201 q45 q1202) ⟨by decide, by decide, by decide +kernel⟩ ⟨rfl, rfl, Nat.le_of_ble_eq_true rfl, Nat.le_of_ble_eq_true rfl, (by first | exact Nat.le_of_ble_eq_true rfl | (show _ ≤ 0; omega)), (by first | exact Nat.le_of_ble_eq_true rfl | (show _ ≤ 0; omega))⟩ rfl hl rfl (Nat.le_of_ble_eq_true rfl) dX2_makeFront_210) hw (fun r2 G2 H locs hp2 hw => ?_)
        obtain ⟨hre, hGe⟩ := hp2
        have hre : r2 = pm_det (pm_sum (fun _ => 1) (kf (E + 1) - kf E)) (pm_sum (pm_X ar hT kh (kf E)) (kf (E + 1) - kf E)) (pm_sum (pm_Y ar hT kh (kf E)) (kf (E + 1) - kf E)) (pm_sum (pm_X ar hT kh (kf E)) (kf (E + 1) - kf E)) (pm_sum (fun j => pm_X ar hT kh (kf E) j * pm_X ar hT kh (kf E) j) (kf (E + 1) - kf E)) (pm_sum (fun j => pm_X ar hT kh (kf E) j * pm_Y ar hT kh (kf E) j) (kf (E + 1) - kf E)) (pm_sum (pm_Y ar hT kh (kf E)) (kf (E + 1) - kf E)) (pm_sum (fun j => pm_X ar hT kh (kf E) j * pm_Y ar hT kh (kf E) j) (kf (E + 1) - kf E)) (pm_sum (fun j => pm_Y ar hT kh (kf E) j * pm_Y ar hT kh (kf E) j) (kf (E + 1) - kf E)) := hre
        obtain rfl := hre.symm
        obtain rfl := hGe.symm
        refine mo_last C hw hm 0 rfl (show 0 < 4 by omega) dX2_makeFront_213 (fun G3 H locs hm hw => ?_)
        refine lv_aload_n hx hb dX2_makeFront_214 rfl (lv_at hl 11 rfl) ?_
        refine gf_X2_94 C hw hm.1 (v := .ref (ad 39)) rfl dX2_makeFront_215 ?_
        refine lv_iconst (v := 1) hx hb dX2_makeFront_218 (by decide) ?_
        refine lv_lload hx hb dX2_makeFront_219 (lv_at hl 8 rfl) ?_
        refine lv_lload hx hb dX2_makeFront_221 (lv_at hl 3 rfl) ?_
        refine lv_lload hx hb dX2_makeFront_223 (lv_at hl 4 rfl) ?_
        refine lv_lload hx hb dX2_makeFront_225 (lv_at hl 9 rfl) ?_
        refine lv_lload hx hb dX2_makeFront_227 (lv_at hl 5 rfl) ?_
        refine lv_lload hx hb dX2_makeFront_229 (lv_at hl 6 rfl) ?_
        refine lv_lload hx hb dX2_makeFront_231 (lv_at hl 10 rfl) ?_
        refine lv_lload hx hb dX2_makeFront_233 (lv_at hl 6 rfl) ?_
        refine lv_lload hx hb dX2_makeFront_235 (lv_at hl 7 rfl) ?_
        refine tf_gol (tf_S (n := 9) C hw [.long (pm_sum (pm_T ar (kf E) (kf (E + 1) - kf E)) (kf (E + 1) - kf E)), .long (pm_sum (pm_X ar hT kh (kf E)) (kf (E + 1) - kf E)), .long (pm_sum (pm_Y ar hT kh (kf E)) (kf (E + 1) - kf E)), .long (pm_sum (fun j => pm_T ar (kf E) (kf (E + 1) - kf E) j * pm_X ar hT kh (kf E) j) (kf (E + 1) - kf E)), .long (pm_sum (fun j => pm_X ar hT kh (kf E) j * pm_X ar hT kh (kf E) j) (kf (E + 1) - kf E)), .long (pm_sum (fun j => pm_X ar hT kh (kf E) j * pm_Y ar hT kh (kf E) j) (kf (E + 1) - kf E)), .long (pm_sum (fun j => pm_T ar (kf E) (kf (E + 1) - kf E) j * pm_Y ar hT kh (kf E) j) (kf (E + 1) - kf E)), .long (pm_sum (fun j => pm_X ar hT kh (kf E) j * pm_Y ar hT kh (kf E) j) (kf (E + 1) - kf E)), .long (pm_sum (fun j => pm_Y ar hT kh (kf E) j * pm_Y ar hT kh (kf E) j) (kf (E + 1) - kf E))] (metX2_determinant hB (pm_sum (pm_T ar (kf E) (kf (E + 1) - kf E)) (kf (E + 1) - kf E)) (pm_sum (pm_X ar hT kh (kf E)) (kf (E + 1) - kf E)) (pm_sum (pm_Y ar hT kh (kf E)) (kf (E + 1) - kf E)) (pm_sum (fun j => pm_T ar (kf E) (kf (E + 1) - kf E) j * pm_X ar hT kh (kf E) j) (kf (E + 1) - kf E)) (pm_sum (fun j => pm_X ar hT kh (kf E) j * pm_X ar hT kh (kf E) j) (kf (E + 1) - kf E)) (pm_sum (fun j => pm_X ar hT kh (kf E) j * pm_Y ar hT kh (kf E) j) (kf (E + 1) - kf E)) (pm_sum (fun j => pm_T ar (kf E) (kf (E + 1) - kf E) j * pm_Y ar hT kh (kf E) j) (kf (E + 1) - kf E)) (pm_sum (fun j => pm_X ar hT kh (kf E) j * pm_Y ar hT kh (kf E) j) (kf (E + 1) - kf E)) (pm_sum (fun j => pm_Y ar hT kh (kf E) j * pm_Y ar hT kh (kf E) j) (kf (E + 1) - kf E))) (lw_S q1200 q1201 q45 q1202) ⟨by decide, by decide, by decide +kernel⟩ ⟨rfl, rfl, Nat.le_of_ble_eq_true rfl, Nat.le_of_ble_eq_true rfl, (by first | exact Nat.le_of_ble_eq_true rfl | (show _ ≤ 0; omega)), (by first | exact Nat.le_of_ble_eq_true rfl | (show _ ≤ 0; omega))⟩ rfl hl rfl (Nat.le_of_ble_eq_true rfl) dX2_makeFront_237) hw (fun r4 G4 H locs hp4 hw => ?_)
        obtain ⟨hre, hGe⟩ := hp4
        have hre : r4 = pm_det (pm_sum (pm_T ar (kf E) (kf (E + 1) - kf E)) (kf (E + 1) - kf E)) (pm_sum (pm_X ar hT kh (kf E)) (kf (E + 1) - kf E)) (pm_sum (pm_Y ar hT kh (kf E)) (kf (E + 1) - kf E)) (pm_sum (fun j => pm_T ar (kf E) (kf (E + 1) - kf E) j * pm_X ar hT kh (kf E) j) (kf (E + 1) - kf E)) (pm_sum (fun j => pm_X ar hT kh (kf E) j * pm_X ar hT kh (kf E) j) (kf (E + 1) - kf E)) (pm_sum (fun j => pm_X ar hT kh (kf E) j * pm_Y ar hT kh (kf E) j) (kf (E + 1) - kf E)) (pm_sum (fun j => pm_T ar (kf E) (kf (E + 1) - kf E) j * pm_Y ar hT kh (kf E) j) (kf (E + 1) - kf E)) (pm_sum (fun j => pm_X ar hT kh (kf E) j * pm_Y ar hT kh (kf E) j) (kf (E + 1) - kf E)) (pm_sum (fun j => pm_Y ar hT kh (kf E) j * pm_Y ar hT kh (kf E) j) (kf (E + 1) - kf E)) := hre
        obtain rfl := hre.symm
        obtain rfl := hGe.symm
        refine mo_last C hw hm 1 rfl (show 1 < 4 by omega) dX2_makeFront_240 (fun G5 H locs hm hw => ?_)
        refine lv_aload_n hx hb dX2_makeFront_241 rfl (lv_at hl 11 rfl) ?_
        refine gf_X2_94 C hw hm.1 (v := .ref (ad 39)) rfl dX2_makeFront_242 ?_
        refine lv_iconst (v := 2) hx hb dX2_makeFront_245 (by decide) ?_
        refine lv_lload_n hx hb dX2_makeFront_246 rfl (lv_at hl 2 rfl) ?_
        refine lv_lload hx hb dX2_makeFront_247 (lv_at hl 8 rfl) ?_
        refine lv_lload hx hb dX2_makeFront_249 (lv_at hl 4 rfl) ?_
        refine lv_lload hx hb dX2_makeFront_251 (lv_at hl 3 rfl) ?_
        refine lv_lload hx hb dX2_makeFront_253 (lv_at hl 9 rfl) ?_
        refine lv_lload hx hb dX2_makeFront_255 (lv_at hl 6 rfl) ?_
        refine lv_lload hx hb dX2_makeFront_257 (lv_at hl 4 rfl) ?_
        refine lv_lload hx hb dX2_makeFront_259 (lv_at hl 10 rfl) ?_
        refine lv_lload hx hb dX2_makeFront_261 (lv_at hl 7 rfl) ?_
        refine tf_gol (tf_S (n := 9) C hw [.long (pm_sum (fun _ => 1) (kf (E + 1) - kf E)), .long (pm_sum (pm_T ar (kf E) (kf (E + 1) - kf E)) (kf (E + 1) - kf E)), .long (pm_sum (pm_Y ar hT kh (kf E)) (kf (E + 1) - kf E)), .long (pm_sum (pm_X ar hT kh (kf E)) (kf (E + 1) - kf E)), .long (pm_sum (fun j => pm_T ar (kf E) (kf (E + 1) - kf E) j * pm_X ar hT kh (kf E) j) (kf (E + 1) - kf E)), .long (pm_sum (fun j => pm_X ar hT kh (kf E) j * pm_Y ar hT kh (kf E) j) (kf (E + 1) - kf E)), .long (pm_sum (pm_Y ar hT kh (kf E)) (kf (E + 1) - kf E)), .long (pm_sum (fun j => pm_T ar (kf E) (kf (E + 1) - kf E) j * pm_Y ar hT kh (kf E) j) (kf (E + 1) - kf E)), .long (pm_sum (fun j => pm_Y ar hT kh (kf E) j * pm_Y ar hT kh (kf E) j) (kf (E + 1) - kf E))] (metX2_determinant hB (pm_sum (fun _ => 1) (kf (E + 1) - kf E)) (pm_sum (pm_T ar (kf E) (kf (E + 1) - kf E)) (kf (E + 1) - kf E)) (pm_sum (pm_Y ar hT kh (kf E)) (kf (E + 1) - kf E)) (pm_sum (pm_X ar hT kh (kf E)) (kf (E + 1) - kf E)) (pm_sum (fun j => pm_T ar (kf E) (kf (E + 1) - kf E) j * pm_X ar hT kh (kf E) j) (kf (E + 1) - kf E)) (pm_sum (fun j => pm_X ar hT kh (kf E) j * pm_Y ar hT kh (kf E) j) (kf (E + 1) - kf E)) (pm_sum (pm_Y ar hT kh (kf E)) (kf (E + 1) - kf E)) (pm_sum (fun j => pm_T ar (kf E) (kf (E + 1) - kf E) j * pm_Y ar hT kh (kf E) j) (kf (E + 1) - kf E)) (pm_sum (fun j => pm_Y ar hT kh (kf E) j * pm_Y ar hT kh (kf E) j) (kf (E + 1) - kf E))) (lw_S q1200 q1201 q45 q1202) ⟨by decide, by decide, by decide +kernel⟩ ⟨rfl, rfl, Nat.le_of_ble_eq_true rfl, Nat.le_of_ble_eq_true rfl, (by first | exact Nat.le_of_ble_eq_true rfl | (show _ ≤ 0; omega)), (by first | exact Nat.le_of_ble_eq_true rfl | (show _ ≤ 0; omega))⟩ rfl hl rfl (Nat.le_of_ble_eq_true rfl) dX2_makeFront_263) hw (fun r6 G6 H locs hp6 hw => ?_)
        obtain ⟨hre, hGe⟩ := hp6
        have hre : r6 = pm_det (pm_sum (fun _ => 1) (kf (E + 1) - kf E)) (pm_sum (pm_T ar (kf E) (kf (E + 1) - kf E)) (kf (E + 1) - kf E)) (pm_sum (pm_Y ar hT kh (kf E)) (kf (E + 1) - kf E)) (pm_sum (pm_X ar hT kh (kf E)) (kf (E + 1) - kf E)) (pm_sum (fun j => pm_T ar (kf E) (kf (E + 1) - kf E) j * pm_X ar hT kh (kf E) j) (kf (E + 1) - kf E)) (pm_sum (fun j => pm_X ar hT kh (kf E) j * pm_Y ar hT kh (kf E) j) (kf (E + 1) - kf E)) (pm_sum (pm_Y ar hT kh (kf E)) (kf (E + 1) - kf E)) (pm_sum (fun j => pm_T ar (kf E) (kf (E + 1) - kf E) j * pm_Y ar hT kh (kf E) j) (kf (E + 1) - kf E)) (pm_sum (fun j => pm_Y ar hT kh (kf E) j * pm_Y ar hT kh (kf E) j) (kf (E + 1) - kf E)) := hre
        obtain rfl := hre.symm
        obtain rfl := hGe.symm
        refine mo_last C hw hm 2 rfl (show 2 < 4 by omega) dX2_makeFront_266 (fun G7 H locs hm hw => ?_)
        refine lv_aload_n hx hb dX2_makeFront_267 rfl (lv_at hl 11 rfl) ?_
        refine gf_X2_94 C hw hm.1 (v := .ref (ad 39)) rfl dX2_makeFront_268 ?_
        refine lv_iconst (v := 3) hx hb dX2_makeFront_271 (by decide) ?_
        refine lv_lload_n hx hb dX2_makeFront_272 rfl (lv_at hl 2 rfl) ?_
        refine lv_lload hx hb dX2_makeFront_273 (lv_at hl 3 rfl) ?_
        refine lv_lload hx hb dX2_makeFront_275 (lv_at hl 8 rfl) ?_
        refine lv_lload hx hb dX2_makeFront_277 (lv_at hl 3 rfl) ?_
        refine lv_lload hx hb dX2_makeFront_279 (lv_at hl 5 rfl) ?_
        refine lv_lload hx hb dX2_makeFront_281 (lv_at hl 9 rfl) ?_
        refine lv_lload hx hb dX2_makeFront_283 (lv_at hl 4 rfl) ?_
        refine lv_lload hx hb dX2_makeFront_285 (lv_at hl 6 rfl) ?_
        refine lv_lload hx hb dX2_makeFront_287 (lv_at hl 10 rfl) ?_
        refine tf_gol (tf_S (n := 9) C hw [.long (pm_sum (fun _ => 1) (kf (E + 1) - kf E)), .long (pm_sum (pm_X ar hT kh (kf E)) (kf (E + 1) - kf E)), .long (pm_sum (pm_T ar (kf E) (kf (E + 1) - kf E)) (kf (E + 1) - kf E)), .long (pm_sum (pm_X ar hT kh (kf E)) (kf (E + 1) - kf E)), .long (pm_sum (fun j => pm_X ar hT kh (kf E) j * pm_X ar hT kh (kf E) j) (kf (E + 1) - kf E)), .long (pm_sum (fun j => pm_T ar (kf E) (kf (E + 1) - kf E) j * pm_X ar hT kh (kf E) j) (kf (E + 1) - kf E)), .long (pm_sum (pm_Y ar hT kh (kf E)) (kf (E + 1) - kf E)), .long (pm_sum (fun j => pm_X ar hT kh (kf E) j * pm_Y ar hT kh (kf E) j) (kf (E + 1) - kf E)), .long (pm_sum (fun j => pm_T ar (kf E) (kf (E + 1) - kf E) j * pm_Y ar hT kh (kf E) j) (kf (E + 1) - kf E))] (metX2_determinant hB (pm_sum (fun _ => 1) (kf (E + 1) - kf E)) (pm_sum (pm_X ar hT kh (kf E)) (kf (E + 1) - kf E)) (pm_sum (pm_T ar (kf E) (kf (E + 1) - kf E)) (kf (E + 1) - kf E)) (pm_sum (pm_X ar hT kh (kf E)) (kf (E + 1) - kf E)) (pm_sum (fun j => pm_X ar hT kh (kf E) j * pm_X ar hT kh (kf E) j) (kf (E + 1) - kf E)) (pm_sum (fun j => pm_T ar (kf E) (kf (E + 1) - kf E) j * pm_X ar hT kh (kf E) j) (kf (E + 1) - kf E)) (pm_sum (pm_Y ar hT kh (kf E)) (kf (E + 1) - kf E)) (pm_sum (fun j => pm_X ar hT kh (kf E) j * pm_Y ar hT kh (kf E) j) (kf (E + 1) - kf E)) (pm_sum (fun j => pm_T ar (kf E) (kf (E + 1) - kf E) j * pm_Y ar hT kh (kf E) j) (kf (E + 1) - kf E))) (lw_S q1200 q1201 q45 q1202) ⟨by decide, by decide, by decide +kernel⟩ ⟨rfl, rfl, Nat.le_of_ble_eq_true rfl, Nat.le_of_ble_eq_true rfl, (by first | exact Nat.le_of_ble_eq_true rfl | (show _ ≤ 0; omega)), (by first | exact Nat.le_of_ble_eq_true rfl | (show _ ≤ 0; omega))⟩ rfl hl rfl (Nat.le_of_ble_eq_true rfl) dX2_makeFront_289) hw (fun r8 G8 H locs hp8 hw => ?_)
        obtain ⟨hre, hGe⟩ := hp8
        have hre : r8 = pm_det (pm_sum (fun _ => 1) (kf (E + 1) - kf E)) (pm_sum (pm_X ar hT kh (kf E)) (kf (E + 1) - kf E)) (pm_sum (pm_T ar (kf E) (kf (E + 1) - kf E)) (kf (E + 1) - kf E)) (pm_sum (pm_X ar hT kh (kf E)) (kf (E + 1) - kf E)) (pm_sum (fun j => pm_X ar hT kh (kf E) j * pm_X ar hT kh (kf E) j) (kf (E + 1) - kf E)) (pm_sum (fun j => pm_T ar (kf E) (kf (E + 1) - kf E) j * pm_X ar hT kh (kf E) j) (kf (E + 1) - kf E)) (pm_sum (pm_Y ar hT kh (kf E)) (kf (E + 1) - kf E)) (pm_sum (fun j => pm_X ar hT kh (kf E) j * pm_Y ar hT kh (kf E) j) (kf (E + 1) - kf E)) (pm_sum (fun j => pm_T ar (kf E) (kf (E + 1) - kf E) j * pm_Y ar hT kh (kf E) j) (kf (E + 1) - kf E)) := hre
        obtain rfl := hre.symm
        obtain rfl := hGe.symm
        refine mo_last C hw hm 3 rfl (show 3 < 4 by omega) dX2_makeFront_292 (fun G9 H locs hm hw => ?_)
        exact tf_retv C hw hr hlk dX2_makeFront_293 (by first | exact Nat.le_of_ble_eq_true rfl | omega) (by first | exact Nat.le_of_ble_eq_true rfl | omega) (hm)
      · have h33j := h33 (kf E + j) (by omega)
        have h6j := h6 (kh (kf E + j)) h33j.2
        refine lv_aload_n hx hb dX2_makeFront_54 rfl (lv_at hl 11 rfl) ?_
        refine gf_X2_7 C hw hm.1 (v := .ref (ad 3)) rfl dX2_makeFront_55 ?_
        refine lv_aload_n hx hb dX2_makeFront_58 rfl (lv_at hl 11 rfl) ?_
        refine gf_X2_16 C hw hm.1 (v := .ref (ad 6)) rfl dX2_makeFront_59 ?_
        refine lv_aload_n hx hb dX2_makeFront_62 rfl (lv_at hl 11 rfl) ?_
        refine gf_X2_79 C hw hm.1 (v := .ref (ad 33)) rfl dX2_makeFront_63 ?_
        refine lv_iload hx hb dX2_makeFront_66 (lv_at hl 0 rfl) ?_
        refine mo_ald (v := nI (kh (kf E + j))) C hw hm 33 (by decide) (by decide) (kf E + j) rfl (show kf E + j < 240 by omega) (h33 (kf E + j) (by omega)).1 dX2_makeFront_68 ?_
        refine mo_ald (v := nI (hT (kh (kf E + j)))) C hw hm 6 (by decide) (by decide) (kh (kf E + j)) rfl (show kh (kf E + j) < 240 by omega) (h6 (kh (kf E + j)) (by omega)).1 dX2_makeFront_69 ?_
        refine mo_ald (v := ar 3 (hT (kh (kf E + j)))) C hw hm 3 (by decide) (by decide) (hT (kh (kf E + j))) rfl (show hT (kh (kf E + j)) < 30 by omega) rfl dX2_makeFront_70 ?_
        refine lv_i2l hx hb dX2_makeFront_71 rfl ?_
        refine lv_lstore (lv' := [(22, .long ((ar 3 (hT (kh (kf E + j)))).toInt64)), (21, .int (nI (kf E + j))), (20, .int (pm_leastL (ar 34) (kf E) (kf (E + 1) - kf E))), (2, .long (pm_sum (fun _ => 1) j)), (4, .long (pm_sum (pm_X ar hT kh (kf E)) j)), (6, .long (pm_sum (pm_Y ar hT kh (kf E)) j)), (8, .long (pm_sum (fun j => pm_X ar hT kh (kf E) j * pm_X ar hT kh (kf E) j) j)), (10, .long (pm_sum (fun j => pm_X ar hT kh (kf E) j * pm_Y ar hT kh (kf E) j) j)), (12, .long (pm_sum (fun j => pm_Y ar hT kh (kf E) j * pm_Y ar hT kh (kf E) j) j)), (14, .long (pm_sum (pm_T ar (kf E) (kf (E + 1) - kf E)) j)), (16, .long (pm_sum (fun j => pm_T ar (kf E) (kf (E + 1) - kf E) j * pm_X ar hT kh (kf E) j) j)), (18, .long (pm_sum (fun j => pm_T ar (kf E) (kf (E + 1) - kf E) j * pm_Y ar hT kh (kf E) j) j)), (0, .ref mm), (1, .int (nI E))]) hx hb dX2_makeFront_72 hl (by decide) rfl (fun ls hl => ?_)
        refine lv_aload_n hx hb dX2_makeFront_74 rfl (lv_at hl 12 rfl) ?_
        refine gf_X2_13 C hw hm.1 (v := .ref (ad 4)) rfl dX2_makeFront_75 ?_
        refine lv_aload_n hx hb dX2_makeFront_78 rfl (lv_at hl 12 rfl) ?_
        refine gf_X2_16 C hw hm.1 (v := .ref (ad 6)) rfl dX2_makeFront_79 ?_
        refine lv_aload_n hx hb dX2_makeFront_82 rfl (lv_at hl 12 rfl) ?_
        refine gf_X2_79 C hw hm.1 (v := .ref (ad 33)) rfl dX2_makeFront_83 ?_
        refine lv_iload hx hb dX2_makeFront_86 (lv_at hl 1 rfl) ?_
        refine mo_ald (v := nI (kh (kf E + j))) C hw hm 33 (by decide) (by decide) (kf E + j) rfl (show kf E + j < 240 by omega) (h33 (kf E + j) (by omega)).1 dX2_makeFront_88 ?_
        refine mo_ald (v := nI (hT (kh (kf E + j)))) C hw hm 6 (by decide) (by decide) (kh (kf E + j)) rfl (show kh (kf E + j) < 240 by omega) (h6 (kh (kf E + j)) (by omega)).1 dX2_makeFront_89 ?_
        refine mo_ald (v := ar 4 (hT (kh (kf E + j)))) C hw hm 4 (by decide) (by decide) (hT (kh (kf E + j))) rfl (show hT (kh (kf E + j)) < 30 by omega) rfl dX2_makeFront_90 ?_
        refine lv_i2l hx hb dX2_makeFront_91 rfl ?_
        refine lv_lstore (lv' := [(24, .long ((ar 4 (hT (kh (kf E + j)))).toInt64)), (22, .long ((ar 3 (hT (kh (kf E + j)))).toInt64)), (21, .int (nI (kf E + j))), (20, .int (pm_leastL (ar 34) (kf E) (kf (E + 1) - kf E))), (2, .long (pm_sum (fun _ => 1) j)), (4, .long (pm_sum (pm_X ar hT kh (kf E)) j)), (6, .long (pm_sum (pm_Y ar hT kh (kf E)) j)), (8, .long (pm_sum (fun j => pm_X ar hT kh (kf E) j * pm_X ar hT kh (kf E) j) j)), (10, .long (pm_sum (fun j => pm_X ar hT kh (kf E) j * pm_Y ar hT kh (kf E) j) j)), (12, .long (pm_sum (fun j => pm_Y ar hT kh (kf E) j * pm_Y ar hT kh (kf E) j) j)), (14, .long (pm_sum (pm_T ar (kf E) (kf (E + 1) - kf E)) j)), (16, .long (pm_sum (fun j => pm_T ar (kf E) (kf (E + 1) - kf E) j * pm_X ar hT kh (kf E) j) j)), (18, .long (pm_sum (fun j => pm_T ar (kf E) (kf (E + 1) - kf E) j * pm_Y ar hT kh (kf E) j) j)), (0, .ref mm), (1, .int (nI E))]) hx hb dX2_makeFront_92 hl (by decide) rfl (fun ls hl => ?_)
        refine lv_aload_n hx hb dX2_makeFront_94 rfl (lv_at hl 13 rfl) ?_
        refine gf_X2_82 C hw hm.1 (v := .ref (ad 34)) rfl dX2_makeFront_95 ?_
        refine lv_iload hx hb dX2_makeFront_98 (lv_at hl 2 rfl) ?_
        refine mo_ald (v := ar 34 (kf E + j)) C hw hm 34 (by decide) (by decide) (kf E + j) rfl (show kf E + j < 240 by omega) rfl dX2_makeFront_100 ?_
        refine lv_iload hx hb dX2_makeFront_101 (lv_at hl 3 rfl) ?_
        refine lv_isub hx hb dX2_makeFront_103 ?_
        refine lv_i2l hx hb dX2_makeFront_104 rfl ?_
        refine lv_lstore (lv' := [(26, .long (((ar 34 (kf E + j)) - (pm_leastL (ar 34) (kf E) (kf (E + 1) - kf E))).toInt64)), (24, .long ((ar 4 (hT (kh (kf E + j)))).toInt64)), (22, .long ((ar 3 (hT (kh (kf E + j)))).toInt64)), (21, .int (nI (kf E + j))), (20, .int (pm_leastL (ar 34) (kf E) (kf (E + 1) - kf E))), (2, .long (pm_sum (fun _ => 1) j)), (4, .long (pm_sum (pm_X ar hT kh (kf E)) j)), (6, .long (pm_sum (pm_Y ar hT kh (kf E)) j)), (8, .long (pm_sum (fun j => pm_X ar hT kh (kf E) j * pm_X ar hT kh (kf E) j) j)), (10, .long (pm_sum (fun j => pm_X ar hT kh (kf E) j * pm_Y ar hT kh (kf E) j) j)), (12, .long (pm_sum (fun j => pm_Y ar hT kh (kf E) j * pm_Y ar hT kh (kf E) j) j)), (14, .long (pm_sum (pm_T ar (kf E) (kf (E + 1) - kf E)) j)), (16, .long (pm_sum (fun j => pm_T ar (kf E) (kf (E + 1) - kf E) j * pm_X ar hT kh (kf E) j) j)), (18, .long (pm_sum (fun j => pm_T ar (kf E) (kf (E + 1) - kf E) j * pm_Y ar hT kh (kf E) j) j)), (0, .ref mm), (1, .int (nI E))]) hx hb dX2_makeFront_105 hl (by decide) rfl (fun ls hl => ?_)
        refine lv_lload_n hx hb dX2_makeFront_107 rfl (lv_at hl 5 rfl) ?_
        refine lv_lconst (v := 1) hx hb dX2_makeFront_108 (by decide) ?_
        refine lv_ladd hx hb dX2_makeFront_109 ?_
        refine lv_lstore_n (lv' := [(2, .long ((pm_sum (fun _ => 1) j) + 1)), (26, .long (((ar 34 (kf E + j)) - (pm_leastL (ar 34) (kf E) (kf (E + 1) - kf E))).toInt64)), (24, .long ((ar 4 (hT (kh (kf E + j)))).toInt64)), (22, .long ((ar 3 (hT (kh (kf E + j)))).toInt64)), (21, .int (nI (kf E + j))), (20, .int (pm_leastL (ar 34) (kf E) (kf (E + 1) - kf E))), (4, .long (pm_sum (pm_X ar hT kh (kf E)) j)), (6, .long (pm_sum (pm_Y ar hT kh (kf E)) j)), (8, .long (pm_sum (fun j => pm_X ar hT kh (kf E) j * pm_X ar hT kh (kf E) j) j)), (10, .long (pm_sum (fun j => pm_X ar hT kh (kf E) j * pm_Y ar hT kh (kf E) j) j)), (12, .long (pm_sum (fun j => pm_Y ar hT kh (kf E) j * pm_Y ar hT kh (kf E) j) j)), (14, .long (pm_sum (pm_T ar (kf E) (kf (E + 1) - kf E)) j)), (16, .long (pm_sum (fun j => pm_T ar (kf E) (kf (E + 1) - kf E) j * pm_X ar hT kh (kf E) j) j)), (18, .long (pm_sum (fun j => pm_T ar (kf E) (kf (E + 1) - kf E) j * pm_Y ar hT kh (kf E) j) j)), (0, .ref mm), (1, .int (nI E))]) hx hb dX2_makeFront_110 rfl hl (by decide) rfl (fun ls hl => ?_)
        refine lv_lload hx hb dX2_makeFront_111 (lv_at hl 6 rfl) ?_
        refine lv_lload hx hb dX2_makeFront_113 (lv_at hl 3 rfl) ?_
        refine lv_ladd hx hb dX2_makeFront_115 ?_
        refine lv_lstore (lv' := [(4, .long ((pm_sum (pm_X ar hT kh (kf E)) j) + ((ar 3 (hT (kh (kf E + j)))).toInt64))), (2, .long ((pm_sum (fun _ => 1) j) + 1)), (26, .long (((ar 34 (kf E + j)) - (pm_leastL (ar 34) (kf E) (kf (E + 1) - kf E))).toInt64)), (24, .long ((ar 4 (hT (kh (kf E + j)))).toInt64)), (22, .long ((ar 3 (hT (kh (kf E + j)))).toInt64)), (21, .int (nI (kf E + j))), (20, .int (pm_leastL (ar 34) (kf E) (kf (E + 1) - kf E))), (6, .long (pm_sum (pm_Y ar hT kh (kf E)) j)), (8, .long (pm_sum (fun j => pm_X ar hT kh (kf E) j * pm_X ar hT kh (kf E) j) j)), (10, .long (pm_sum (fun j => pm_X ar hT kh (kf E) j * pm_Y ar hT kh (kf E) j) j)), (12, .long (pm_sum (fun j => pm_Y ar hT kh (kf E) j * pm_Y ar hT kh (kf E) j) j)), (14, .long (pm_sum (pm_T ar (kf E) (kf (E + 1) - kf E)) j)), (16, .long (pm_sum (fun j => pm_T ar (kf E) (kf (E + 1) - kf E) j * pm_X ar hT kh (kf E) j) j)), (18, .long (pm_sum (fun j => pm_T ar (kf E) (kf (E + 1) - kf E) j * pm_Y ar hT kh (kf E) j) j)), (0, .ref mm), (1, .int (nI E))]) hx hb dX2_makeFront_116 hl (by decide) rfl (fun ls hl => ?_)
        refine lv_lload hx hb dX2_makeFront_118 (lv_at hl 7 rfl) ?_
        refine lv_lload hx hb dX2_makeFront_120 (lv_at hl 3 rfl) ?_
        refine lv_ladd hx hb dX2_makeFront_122 ?_
        refine lv_lstore (lv' := [(6, .long ((pm_sum (pm_Y ar hT kh (kf E)) j) + ((ar 4 (hT (kh (kf E + j)))).toInt64))), (4, .long ((pm_sum (pm_X ar hT kh (kf E)) j) + ((ar 3 (hT (kh (kf E + j)))).toInt64))), (2, .long ((pm_sum (fun _ => 1) j) + 1)), (26, .long (((ar 34 (kf E + j)) - (pm_leastL (ar 34) (kf E) (kf (E + 1) - kf E))).toInt64)), (24, .long ((ar 4 (hT (kh (kf E + j)))).toInt64)), (22, .long ((ar 3 (hT (kh (kf E + j)))).toInt64)), (21, .int (nI (kf E + j))), (20, .int (pm_leastL (ar 34) (kf E) (kf (E + 1) - kf E))), (8, .long (pm_sum (fun j => pm_X ar hT kh (kf E) j * pm_X ar hT kh (kf E) j) j)), (10, .long (pm_sum (fun j => pm_X ar hT kh (kf E) j * pm_Y ar hT kh (kf E) j) j)), (12, .long (pm_sum (fun j => pm_Y ar hT kh (kf E) j * pm_Y ar hT kh (kf E) j) j)), (14, .long (pm_sum (pm_T ar (kf E) (kf (E + 1) - kf E)) j)), (16, .long (pm_sum (fun j => pm_T ar (kf E) (kf (E + 1) - kf E) j * pm_X ar hT kh (kf E) j) j)), (18, .long (pm_sum (fun j => pm_T ar (kf E) (kf (E + 1) - kf E) j * pm_Y ar hT kh (kf E) j) j)), (0, .ref mm), (1, .int (nI E))]) hx hb dX2_makeFront_123 hl (by decide) rfl (fun ls hl => ?_)
        refine lv_lload hx hb dX2_makeFront_125 (lv_at hl 8 rfl) ?_
        refine lv_lload hx hb dX2_makeFront_127 (lv_at hl 5 rfl) ?_
        refine lv_lload hx hb dX2_makeFront_129 (lv_at hl 5 rfl) ?_
        refine lv_lmul hx hb dX2_makeFront_131 ?_
        refine lv_ladd hx hb dX2_makeFront_132 ?_
        refine lv_lstore (lv' := [(8, .long ((pm_sum (fun j => pm_X ar hT kh (kf E) j * pm_X ar hT kh (kf E) j) j) + (((ar 3 (hT (kh (kf E + j)))).toInt64) * ((ar 3 (hT (kh (kf E + j)))).toInt64)))), (6, .long ((pm_sum (pm_Y ar hT kh (kf E)) j) + ((ar 4 (hT (kh (kf E + j)))).toInt64))), (4, .long ((pm_sum (pm_X ar hT kh (kf E)) j) + ((ar 3 (hT (kh (kf E + j)))).toInt64))), (2, .long ((pm_sum (fun _ => 1) j) + 1)), (26, .long (((ar 34 (kf E + j)) - (pm_leastL (ar 34) (kf E) (kf (E + 1) - kf E))).toInt64)), (24, .long ((ar 4 (hT (kh (kf E + j)))).toInt64)), (22, .long ((ar 3 (hT (kh (kf E + j)))).toInt64)), (21, .int (nI (kf E + j))), (20, .int (pm_leastL (ar 34) (kf E) (kf (E + 1) - kf E))), (10, .long (pm_sum (fun j => pm_X ar hT kh (kf E) j * pm_Y ar hT kh (kf E) j) j)), (12, .long (pm_sum (fun j => pm_Y ar hT kh (kf E) j * pm_Y ar hT kh (kf E) j) j)), (14, .long (pm_sum (pm_T ar (kf E) (kf (E + 1) - kf E)) j)), (16, .long (pm_sum (fun j => pm_T ar (kf E) (kf (E + 1) - kf E) j * pm_X ar hT kh (kf E) j) j)), (18, .long (pm_sum (fun j => pm_T ar (kf E) (kf (E + 1) - kf E) j * pm_Y ar hT kh (kf E) j) j)), (0, .ref mm), (1, .int (nI E))]) hx hb dX2_makeFront_133 hl (by decide) rfl (fun ls hl => ?_)
        refine lv_lload hx hb dX2_makeFront_135 (lv_at hl 9 rfl) ?_
        refine lv_lload hx hb dX2_makeFront_137 (lv_at hl 6 rfl) ?_
        refine lv_lload hx hb dX2_makeFront_139 (lv_at hl 5 rfl) ?_
        refine lv_lmul hx hb dX2_makeFront_141 ?_
        refine lv_ladd hx hb dX2_makeFront_142 ?_
        refine lv_lstore (lv' := [(10, .long ((pm_sum (fun j => pm_X ar hT kh (kf E) j * pm_Y ar hT kh (kf E) j) j) + (((ar 3 (hT (kh (kf E + j)))).toInt64) * ((ar 4 (hT (kh (kf E + j)))).toInt64)))), (8, .long ((pm_sum (fun j => pm_X ar hT kh (kf E) j * pm_X ar hT kh (kf E) j) j) + (((ar 3 (hT (kh (kf E + j)))).toInt64) * ((ar 3 (hT (kh (kf E + j)))).toInt64)))), (6, .long ((pm_sum (pm_Y ar hT kh (kf E)) j) + ((ar 4 (hT (kh (kf E + j)))).toInt64))), (4, .long ((pm_sum (pm_X ar hT kh (kf E)) j) + ((ar 3 (hT (kh (kf E + j)))).toInt64))), (2, .long ((pm_sum (fun _ => 1) j) + 1)), (26, .long (((ar 34 (kf E + j)) - (pm_leastL (ar 34) (kf E) (kf (E + 1) - kf E))).toInt64)), (24, .long ((ar 4 (hT (kh (kf E + j)))).toInt64)), (22, .long ((ar 3 (hT (kh (kf E + j)))).toInt64)), (21, .int (nI (kf E + j))), (20, .int (pm_leastL (ar 34) (kf E) (kf (E + 1) - kf E))), (12, .long (pm_sum (fun j => pm_Y ar hT kh (kf E) j * pm_Y ar hT kh (kf E) j) j)), (14, .long (pm_sum (pm_T ar (kf E) (kf (E + 1) - kf E)) j)), (16, .long (pm_sum (fun j => pm_T ar (kf E) (kf (E + 1) - kf E) j * pm_X ar hT kh (kf E) j) j)), (18, .long (pm_sum (fun j => pm_T ar (kf E) (kf (E + 1) - kf E) j * pm_Y ar hT kh (kf E) j) j)), (0, .ref mm), (1, .int (nI E))]) hx hb dX2_makeFront_143 hl (by decide) rfl (fun ls hl => ?_)
        refine lv_lload hx hb dX2_makeFront_145 (lv_at hl 10 rfl) ?_
        refine lv_lload hx hb dX2_makeFront_147 (lv_at hl 6 rfl) ?_
        refine lv_lload hx hb dX2_makeFront_149 (lv_at hl 6 rfl) ?_
        refine lv_lmul hx hb dX2_makeFront_151 ?_
        refine lv_ladd hx hb dX2_makeFront_152 ?_
        refine lv_lstore (lv' := [(12, .long ((pm_sum (fun j => pm_Y ar hT kh (kf E) j * pm_Y ar hT kh (kf E) j) j) + (((ar 4 (hT (kh (kf E + j)))).toInt64) * ((ar 4 (hT (kh (kf E + j)))).toInt64)))), (10, .long ((pm_sum (fun j => pm_X ar hT kh (kf E) j * pm_Y ar hT kh (kf E) j) j) + (((ar 3 (hT (kh (kf E + j)))).toInt64) * ((ar 4 (hT (kh (kf E + j)))).toInt64)))), (8, .long ((pm_sum (fun j => pm_X ar hT kh (kf E) j * pm_X ar hT kh (kf E) j) j) + (((ar 3 (hT (kh (kf E + j)))).toInt64) * ((ar 3 (hT (kh (kf E + j)))).toInt64)))), (6, .long ((pm_sum (pm_Y ar hT kh (kf E)) j) + ((ar 4 (hT (kh (kf E + j)))).toInt64))), (4, .long ((pm_sum (pm_X ar hT kh (kf E)) j) + ((ar 3 (hT (kh (kf E + j)))).toInt64))), (2, .long ((pm_sum (fun _ => 1) j) + 1)), (26, .long (((ar 34 (kf E + j)) - (pm_leastL (ar 34) (kf E) (kf (E + 1) - kf E))).toInt64)), (24, .long ((ar 4 (hT (kh (kf E + j)))).toInt64)), (22, .long ((ar 3 (hT (kh (kf E + j)))).toInt64)), (21, .int (nI (kf E + j))), (20, .int (pm_leastL (ar 34) (kf E) (kf (E + 1) - kf E))), (14, .long (pm_sum (pm_T ar (kf E) (kf (E + 1) - kf E)) j)), (16, .long (pm_sum (fun j => pm_T ar (kf E) (kf (E + 1) - kf E) j * pm_X ar hT kh (kf E) j) j)), (18, .long (pm_sum (fun j => pm_T ar (kf E) (kf (E + 1) - kf E) j * pm_Y ar hT kh (kf E) j) j)), (0, .ref mm), (1, .int (nI E))]) hx hb dX2_makeFront_153 hl (by decide) rfl (fun ls hl => ?_)
        refine lv_lload hx hb dX2_makeFront_155 (lv_at hl 11 rfl) ?_
        refine lv_lload hx hb dX2_makeFront_157 (lv_at hl 6 rfl) ?_
        refine lv_ladd hx hb dX2_makeFront_159 ?_
        refine lv_lstore (lv' := [(14, .long ((pm_sum (pm_T ar (kf E) (kf (E + 1) - kf E)) j) + (((ar 34 (kf E + j)) - (pm_leastL (ar 34) (kf E) (kf (E + 1) - kf E))).toInt64))), (12, .long ((pm_sum (fun j => pm_Y ar hT kh (kf E) j * pm_Y ar hT kh (kf E) j) j) + (((ar 4 (hT (kh (kf E + j)))).toInt64) * ((ar 4 (hT (kh (kf E + j)))).toInt64)))), (10, .long ((pm_sum (fun j => pm_X ar hT kh (kf E) j * pm_Y ar hT kh (kf E) j) j) + (((ar 3 (hT (kh (kf E + j)))).toInt64) * ((ar 4 (hT (kh (kf E + j)))).toInt64)))), (8, .long ((pm_sum (fun j => pm_X ar hT kh (kf E) j * pm_X ar hT kh (kf E) j) j) + (((ar 3 (hT (kh (kf E + j)))).toInt64) * ((ar 3 (hT (kh (kf E + j)))).toInt64)))), (6, .long ((pm_sum (pm_Y ar hT kh (kf E)) j) + ((ar 4 (hT (kh (kf E + j)))).toInt64))), (4, .long ((pm_sum (pm_X ar hT kh (kf E)) j) + ((ar 3 (hT (kh (kf E + j)))).toInt64))), (2, .long ((pm_sum (fun _ => 1) j) + 1)), (26, .long (((ar 34 (kf E + j)) - (pm_leastL (ar 34) (kf E) (kf (E + 1) - kf E))).toInt64)), (24, .long ((ar 4 (hT (kh (kf E + j)))).toInt64)), (22, .long ((ar 3 (hT (kh (kf E + j)))).toInt64)), (21, .int (nI (kf E + j))), (20, .int (pm_leastL (ar 34) (kf E) (kf (E + 1) - kf E))), (16, .long (pm_sum (fun j => pm_T ar (kf E) (kf (E + 1) - kf E) j * pm_X ar hT kh (kf E) j) j)), (18, .long (pm_sum (fun j => pm_T ar (kf E) (kf (E + 1) - kf E) j * pm_Y ar hT kh (kf E) j) j)), (0, .ref mm), (1, .int (nI E))]) hx hb dX2_makeFront_160 hl (by decide) rfl (fun ls hl => ?_)
        refine lv_lload hx hb dX2_makeFront_162 (lv_at hl 12 rfl) ?_
        refine lv_lload hx hb dX2_makeFront_164 (lv_at hl 7 rfl) ?_
        refine lv_lload hx hb dX2_makeFront_166 (lv_at hl 9 rfl) ?_
        refine lv_lmul hx hb dX2_makeFront_168 ?_
        refine lv_ladd hx hb dX2_makeFront_169 ?_
        refine lv_lstore (lv' := [(16, .long ((pm_sum (fun j => pm_T ar (kf E) (kf (E + 1) - kf E) j * pm_X ar hT kh (kf E) j) j) + ((((ar 34 (kf E + j)) - (pm_leastL (ar 34) (kf E) (kf (E + 1) - kf E))).toInt64) * ((ar 3 (hT (kh (kf E + j)))).toInt64)))), (14, .long ((pm_sum (pm_T ar (kf E) (kf (E + 1) - kf E)) j) + (((ar 34 (kf E + j)) - (pm_leastL (ar 34) (kf E) (kf (E + 1) - kf E))).toInt64))), (12, .long ((pm_sum (fun j => pm_Y ar hT kh (kf E) j * pm_Y ar hT kh (kf E) j) j) + (((ar 4 (hT (kh (kf E + j)))).toInt64) * ((ar 4 (hT (kh (kf E + j)))).toInt64)))), (10, .long ((pm_sum (fun j => pm_X ar hT kh (kf E) j * pm_Y ar hT kh (kf E) j) j) + (((ar 3 (hT (kh (kf E + j)))).toInt64) * ((ar 4 (hT (kh (kf E + j)))).toInt64)))), (8, .long ((pm_sum (fun j => pm_X ar hT kh (kf E) j * pm_X ar hT kh (kf E) j) j) + (((ar 3 (hT (kh (kf E + j)))).toInt64) * ((ar 3 (hT (kh (kf E + j)))).toInt64)))), (6, .long ((pm_sum (pm_Y ar hT kh (kf E)) j) + ((ar 4 (hT (kh (kf E + j)))).toInt64))), (4, .long ((pm_sum (pm_X ar hT kh (kf E)) j) + ((ar 3 (hT (kh (kf E + j)))).toInt64))), (2, .long ((pm_sum (fun _ => 1) j) + 1)), (26, .long (((ar 34 (kf E + j)) - (pm_leastL (ar 34) (kf E) (kf (E + 1) - kf E))).toInt64)), (24, .long ((ar 4 (hT (kh (kf E + j)))).toInt64)), (22, .long ((ar 3 (hT (kh (kf E + j)))).toInt64)), (21, .int (nI (kf E + j))), (20, .int (pm_leastL (ar 34) (kf E) (kf (E + 1) - kf E))), (18, .long (pm_sum (fun j => pm_T ar (kf E) (kf (E + 1) - kf E) j * pm_Y ar hT kh (kf E) j) j)), (0, .ref mm), (1, .int (nI E))]) hx hb dX2_makeFront_170 hl (by decide) rfl (fun ls hl => ?_)
        refine lv_lload hx hb dX2_makeFront_172 (lv_at hl 13 rfl) ?_
        refine lv_lload hx hb dX2_makeFront_174 (lv_at hl 8 rfl) ?_
        refine lv_lload hx hb dX2_makeFront_176 (lv_at hl 9 rfl) ?_
        refine lv_lmul hx hb dX2_makeFront_178 ?_
        refine lv_ladd hx hb dX2_makeFront_179 ?_
        refine lv_lstore (lv' := [(18, .long ((pm_sum (fun j => pm_T ar (kf E) (kf (E + 1) - kf E) j * pm_Y ar hT kh (kf E) j) j) + ((((ar 34 (kf E + j)) - (pm_leastL (ar 34) (kf E) (kf (E + 1) - kf E))).toInt64) * ((ar 4 (hT (kh (kf E + j)))).toInt64)))), (16, .long ((pm_sum (fun j => pm_T ar (kf E) (kf (E + 1) - kf E) j * pm_X ar hT kh (kf E) j) j) + ((((ar 34 (kf E + j)) - (pm_leastL (ar 34) (kf E) (kf (E + 1) - kf E))).toInt64) * ((ar 3 (hT (kh (kf E + j)))).toInt64)))), (14, .long ((pm_sum (pm_T ar (kf E) (kf (E + 1) - kf E)) j) + (((ar 34 (kf E + j)) - (pm_leastL (ar 34) (kf E) (kf (E + 1) - kf E))).toInt64))), (12, .long ((pm_sum (fun j => pm_Y ar hT kh (kf E) j * pm_Y ar hT kh (kf E) j) j) + (((ar 4 (hT (kh (kf E + j)))).toInt64) * ((ar 4 (hT (kh (kf E + j)))).toInt64)))), (10, .long ((pm_sum (fun j => pm_X ar hT kh (kf E) j * pm_Y ar hT kh (kf E) j) j) + (((ar 3 (hT (kh (kf E + j)))).toInt64) * ((ar 4 (hT (kh (kf E + j)))).toInt64)))), (8, .long ((pm_sum (fun j => pm_X ar hT kh (kf E) j * pm_X ar hT kh (kf E) j) j) + (((ar 3 (hT (kh (kf E + j)))).toInt64) * ((ar 3 (hT (kh (kf E + j)))).toInt64)))), (6, .long ((pm_sum (pm_Y ar hT kh (kf E)) j) + ((ar 4 (hT (kh (kf E + j)))).toInt64))), (4, .long ((pm_sum (pm_X ar hT kh (kf E)) j) + ((ar 3 (hT (kh (kf E + j)))).toInt64))), (2, .long ((pm_sum (fun _ => 1) j) + 1)), (26, .long (((ar 34 (kf E + j)) - (pm_leastL (ar 34) (kf E) (kf (E + 1) - kf E))).toInt64)), (24, .long ((ar 4 (hT (kh (kf E + j)))).toInt64)), (22, .long ((ar 3 (hT (kh (kf E + j)))).toInt64)), (21, .int (nI (kf E + j))), (20, .int (pm_leastL (ar 34) (kf E) (kf (E + 1) - kf E))), (0, .ref mm), (1, .int (nI E))]) hx hb dX2_makeFront_180 hl (by decide) rfl (fun ls hl => ?_)
        refine lv_iinc (v := nI (kf E + j + 1)) (lv' := [(21, .int (nI (kf E + j + 1))), (18, .long ((pm_sum (fun j => pm_T ar (kf E) (kf (E + 1) - kf E) j * pm_Y ar hT kh (kf E) j) j) + ((((ar 34 (kf E + j)) - (pm_leastL (ar 34) (kf E) (kf (E + 1) - kf E))).toInt64) * ((ar 4 (hT (kh (kf E + j)))).toInt64)))), (16, .long ((pm_sum (fun j => pm_T ar (kf E) (kf (E + 1) - kf E) j * pm_X ar hT kh (kf E) j) j) + ((((ar 34 (kf E + j)) - (pm_leastL (ar 34) (kf E) (kf (E + 1) - kf E))).toInt64) * ((ar 3 (hT (kh (kf E + j)))).toInt64)))), (14, .long ((pm_sum (pm_T ar (kf E) (kf (E + 1) - kf E)) j) + (((ar 34 (kf E + j)) - (pm_leastL (ar 34) (kf E) (kf (E + 1) - kf E))).toInt64))), (12, .long ((pm_sum (fun j => pm_Y ar hT kh (kf E) j * pm_Y ar hT kh (kf E) j) j) + (((ar 4 (hT (kh (kf E + j)))).toInt64) * ((ar 4 (hT (kh (kf E + j)))).toInt64)))), (10, .long ((pm_sum (fun j => pm_X ar hT kh (kf E) j * pm_Y ar hT kh (kf E) j) j) + (((ar 3 (hT (kh (kf E + j)))).toInt64) * ((ar 4 (hT (kh (kf E + j)))).toInt64)))), (8, .long ((pm_sum (fun j => pm_X ar hT kh (kf E) j * pm_X ar hT kh (kf E) j) j) + (((ar 3 (hT (kh (kf E + j)))).toInt64) * ((ar 3 (hT (kh (kf E + j)))).toInt64)))), (6, .long ((pm_sum (pm_Y ar hT kh (kf E)) j) + ((ar 4 (hT (kh (kf E + j)))).toInt64))), (4, .long ((pm_sum (pm_X ar hT kh (kf E)) j) + ((ar 3 (hT (kh (kf E + j)))).toInt64))), (2, .long ((pm_sum (fun _ => 1) j) + 1)), (26, .long (((ar 34 (kf E + j)) - (pm_leastL (ar 34) (kf E) (kf (E + 1) - kf E))).toInt64)), (24, .long ((ar 4 (hT (kh (kf E + j)))).toInt64)), (22, .long ((ar 3 (hT (kh (kf E + j)))).toInt64)), (20, .int (pm_leastL (ar 34) (kf E) (kf (E + 1) - kf E))), (0, .ref mm), (1, .int (nI E))]) hx hb dX2_makeFront_182 hl (k := 12) rfl (nI_1 _) (by decide) rfl (fun ls hl => ?_)
        refine lv_goto (tgt := 41) hx hb dX2_makeFront_185 (by decide) ?_
        exact ih41 (j + 1) (by omega) (by omega) _ _ hw ls (lv_sub hl [0, 13, 9, 8, 7, 6, 5, 4, 3, 2, 1, 14, 15] rfl)
  exact b41 (kf (E + 1) - kf E + 1) 0 (by omega) (by omega) _ _ hw ls (lv_sub hl [0, 1, 10, 9, 8, 7, 6, 5, 4, 3, 2, 11, 12] rfl)

def pm_LOST : Int64 := -9223372036854775808
def pm_frontv (ar : Nat → Nat → Int32) (hT kf kh : Nat → Nat) (ne : Nat) (e what : Int32) : Int64 := if pm_of e (nI ne) && pm_in what 0 3 then (if what ≤ 0 then pm_Fr ar hT kh (kf e.toNatClampNeg) (kf (e.toNatClampNeg + 1) - kf e.toNatClampNeg) what.toNatClampNeg else if pm_Fr ar hT kh (kf e.toNatClampNeg) (kf (e.toNatClampNeg + 1) - kf e.toNatClampNeg) 0 = 0 then -9223372036854775808 else pm_Fr ar hT kh (kf e.toNatClampNeg) (kf (e.toNatClampNeg + 1) - kf e.toNatClampNeg) what.toNatClampNeg) else -9223372036854775808
/-- the error of the member i, by the front F -/
def pm_err (ar : Nat → Nat → Int32) (hT kh : Nat → Nat) (a m : Nat) (F : Nat → Int64) (i : Nat) : Int64 := (ar 34 (a + i) - pm_leastL (ar 34) a m).toInt64 * F 0 - (F 1 + F 2 * (ar 3 (hT (kh (a + i)))).toInt64 + F 3 * (ar 4 (hT (kh (a + i)))).toInt64)
def pm_errorv (ar : Nat → Nat → Int32) (hT kf kh : Nat → Nat) (ne : Nat) (e i : Int32) : Int64 := if pm_mem kf ne e i then (if pm_Fr ar hT kh (kf e.toNatClampNeg) (kf (e.toNatClampNeg + 1) - kf e.toNatClampNeg) 0 = 0 then -9223372036854775808 else pm_err ar hT kh (kf e.toNatClampNeg) (kf (e.toNatClampNeg + 1) - kf e.toNatClampNeg) (pm_Fr ar hT kh (kf e.toNatClampNeg) (kf (e.toNatClampNeg + 1) - kf e.toNatClampNeg)) i.toNatClampNeg) else -9223372036854775808
theorem pm_err_fr (ar : Nat → Nat → Int32) (hT kh : Nat → Nat) (a m : Nat) (fr F : Nat → Int64) (i : Nat) : pm_err ar hT kh a m (pm_frA fr F) i = pm_err ar hT kh a m F i := by
  simp only [pm_err, pm_frA_at fr F (show 0 < 4 by decide), pm_frA_at fr F (show 1 < 4 by decide), pm_frA_at fr F (show 2 < 4 by decide), pm_frA_at fr F (show 3 < 4 by decide)]

set_option maxHeartbeats 4000000 in
set_option maxRecDepth 100000 in
theorem metX2_front {l : Launch} {S0 : State} {D : va_G} {dA : Nat → ClassId} (hB : tf_B S0 D dA) {sz : Nat} {G : tf_Pic} {mm : Nat} {ad : Nat → Nat} {iv : Nat → Int32} {ar : Nat → Nat → Int32} {fr : Nat → Int64} (hm : mo_W dA mm ad iv ar fr G) {nT nh nc nd ne nk : Nat} {hT kf kh : Nat → Nat} (hI : mo_I iv ar nT nh nc nd ne nk hT kf kh) (e0 what : Int32) : Met l yX2_front (ws_ yX2_front cX2_front 3 (some .long)) (tf_rm 3 0 0) (tf_Pc S0 D sz G [.ref mm, .int e0, .int what]) (tf_Ql S0 D sz G (fun r G1 => r = pm_frontv ar hT kf kh ne e0 what ∧ ∃ fr1, mo_W dA mm ad iv ar fr1 G1)) 0 0 (tf_A G sz) := by
  refine Met.ofW (cc := cX2_front) (maxL := 3) (ret := (some .long)) (by decide) rfl ?_
  intro p e s m args below meth c s₁ B hml hv
  obtain ⟨C, hw, hr, hlk, hin, hargs⟩ := tf_enter hB B hml hv
  subst hargs
  have C : tf_C p s m ([.ref mm, .int e0, .int what] : List Value).toArray c cX2_front 3 RX2 S0 D dA := C
  have hx := C.hx
  have hb := C.hb
  change W p l e (tf_rm 3 0 0) s m ([.ref mm, .int e0, .int what] : List Value).toArray below meth c s.heap [] 0 0 (MQ below (tf_Ql S0 D sz G (fun r G1 => r = pm_frontv ar hT kf kh ne e0 what ∧ ∃ fr1, mo_W dA mm ad iv ar fr1 G1)) ([.ref mm, .int e0, .int what] : List Value).toArray s 0 0 (tf_A G sz)) (entryFrame m ([.ref mm, .int e0, .int what] : List Value).toArray 3)
  have hI0 := hI
  obtain ⟨hk2, hnT, hk5, hnh, h6, hk10, hnc, hk14, hnd, hk30, hne, hk31, hnk, h32, hkf0, hkfn, hkfs, h33⟩ := hI
  refine tf_start [.ref mm, .int e0, .int what] (Nat.le_of_ble_eq_true rfl) (fun ls hl => ?_)
  have hl : lv_has ls 3 [(0, .ref mm), (1, .int e0), (2, .int what)] := hl
  refine lv_aload_n hx hb dX2_front_0 rfl (lv_at hl 0 rfl) ?_
  refine lv_iload_n hx hb dX2_front_1 rfl (lv_at hl 1 rfl) ?_
  refine tf_goi (tf_V (n := 1) C hw hm.1 rfl [.int e0] (metX2_isEvent hB hm e0) (lw_V q1168 q1170 qs35 q45 q1171) rfl ⟨by decide, by decide, by decide +kernel⟩ ⟨rfl, rfl, Nat.le_of_ble_eq_true rfl, Nat.le_of_ble_eq_true rfl, (by first | exact Nat.le_of_ble_eq_true rfl | (show _ ≤ 0; omega)), (by first | exact Nat.le_of_ble_eq_true rfl | (show _ ≤ 0; omega))⟩ rfl hl rfl (Nat.le_of_ble_eq_true rfl) dX2_front_2) hw (fun r1 G1 H locs hp1 hw => ?_)
  obtain ⟨hre, hGe⟩ := hp1
  have hre : r1 = pt_b (pm_of e0 (iv 30)) := hre
  obtain rfl := hre.symm
  obtain rfl := hGe.symm
  refine lv_if_eq (tgt := 17) hx hb dX2_front_5 (by decide) (fun c5 => ?_) (fun c5 => ?_)
  · replace c5 := pt_b0 c5
    refine lv_ldc2 (v := (-9223372036854775808)) hx hb C.hown (C.hts _ q1124) dX2_front_17 ?_
    refine tf_retl C hw hr hlk dX2_front_20 (by first | exact Nat.le_of_ble_eq_true rfl | omega) (by first | exact Nat.le_of_ble_eq_true rfl | omega) ?_
    refine ⟨?_, _, hm⟩
    rw [hk30] at c5
    simp [pm_frontv, c5]
  · replace c5 := pt_b1 c5
    refine lv_iload_n hx hb dX2_front_8 rfl (lv_at hl 2 rfl) ?_
    refine lv_iconst (v := 0) hx hb dX2_front_9 (by decide) ?_
    refine lv_iconst (v := 3) hx hb dX2_front_10 (by decide) ?_
    refine tf_goi (tf_S (n := 3) C hw [.int what, .int 0, .int 3] (metX2_within hB what 0 3) (lw_S q1052 q1053 q45 q1054) ⟨by decide, by decide, by decide +kernel⟩ ⟨rfl, rfl, Nat.le_of_ble_eq_true rfl, Nat.le_of_ble_eq_true rfl, (by first | exact Nat.le_of_ble_eq_true rfl | (show _ ≤ 0; omega)), (by first | exact Nat.le_of_ble_eq_true rfl | (show _ ≤ 0; omega))⟩ rfl hl rfl (Nat.le_of_ble_eq_true rfl) dX2_front_11) hw (fun r2 G2 H locs hp2 hw => ?_)
    obtain ⟨hre, hGe⟩ := hp2
    have hre : r2 = pt_b (pm_in what 0 3) := hre
    obtain rfl := hre.symm
    obtain rfl := hGe.symm
    refine lv_if_ne (tgt := 21) hx hb dX2_front_14 (by decide) (fun c14 => ?_) (fun c14 => ?_)
    · replace c14 := pt_b1 c14
      have c_e := c5
      rw [hk30] at c_e
      obtain ⟨E, hE, hEe, hEc⟩ := pm_clof (by omega) c_e
      rw [hEe] at hl
      have hE1 := hkfs E hE
      have hE2 := mo_le hkfs (e := E + 1) hE
      obtain ⟨K, hKb, hK, hKc⟩ := pm_cl (n := 3) (by decide) c14
      rw [hK] at hl
      refine lv_aload_n hx hb dX2_front_21 rfl (lv_at hl 0 rfl) ?_
      refine lv_iload_n hx hb dX2_front_22 rfl (lv_at hl 1 rfl) ?_
      refine tf_gov (tf_V (n := 1) C hw hm.1 rfl [.int (nI E)] (metX2_makeFront hB hm hI0 hE) (lw_V q1196 q1198 qs38 q45 q1199) rfl ⟨by decide, by decide, by decide +kernel⟩ ⟨rfl, rfl, Nat.le_of_ble_eq_true rfl, Nat.le_of_ble_eq_true rfl, (by first | exact Nat.le_of_ble_eq_true rfl | (show _ ≤ 0; omega)), (by first | exact Nat.le_of_ble_eq_true rfl | (show _ ≤ 0; omega))⟩ rfl hl rfl (Nat.le_of_ble_eq_true rfl) dX2_front_23) hw (fun G3 H locs hp3 hw => ?_)
      have hm : mo_W dA mm ad iv ar (pm_frA fr (pm_Fr ar hT kh (kf E) (kf (E + 1) - kf E))) G3 := hp3
      refine lv_iload_n hx hb dX2_front_26 rfl (lv_at hl 2 rfl) ?_
      refine lv_if_le (tgt := 47) hx hb dX2_front_27 (by decide) (fun c27 => ?_) (fun c27 => ?_)
      · refine lv_aload_n hx hb dX2_front_47 rfl (lv_at hl 0 rfl) ?_
        refine gf_X2_94 C hw hm.1 (v := .ref (ad 39)) rfl dX2_front_48 ?_
        refine lv_iload_n hx hb dX2_front_51 rfl (lv_at hl 2 rfl) ?_
        refine mo_lald C hw hm K rfl (show K < 4 by omega) rfl dX2_front_52 ?_
        refine tf_retl C hw hr hlk dX2_front_53 (by first | exact Nat.le_of_ble_eq_true rfl | omega) (by first | exact Nat.le_of_ble_eq_true rfl | omega) ?_
        refine ⟨?_, _, hm⟩
        simp only [pm_frontv, c_e, c14, Bool.and_self, if_true, hEc, hKc]
        rw [← hK] at c27
        rw [if_pos c27]
        exact pm_frA_at _ _ (by omega)
      · refine lv_aload_n hx hb dX2_front_30 rfl (lv_at hl 0 rfl) ?_
        refine gf_X2_94 C hw hm.1 (v := .ref (ad 39)) rfl dX2_front_31 ?_
        refine lv_iconst (v := 0) hx hb dX2_front_34 (by decide) ?_
        refine mo_lald C hw hm 0 rfl (show 0 < 4 by omega) rfl dX2_front_35 ?_
        refine lv_lconst (v := 0) hx hb dX2_front_36 (by decide) ?_
        refine W.lcmp hx hb dX2_front_37 ?_
        refine lv_if_ne (tgt := 47) hx hb dX2_front_38 (by decide) (fun c38 => ?_) (fun c38 => ?_)
        · rw [lg_cmp_eq] at c38
          refine lv_aload_n hx hb dX2_front_47 rfl (lv_at hl 0 rfl) ?_
          refine gf_X2_94 C hw hm.1 (v := .ref (ad 39)) rfl dX2_front_48 ?_
          refine lv_iload_n hx hb dX2_front_51 rfl (lv_at hl 2 rfl) ?_
          refine mo_lald C hw hm K rfl (show K < 4 by omega) rfl dX2_front_52 ?_
          refine tf_retl C hw hr hlk dX2_front_53 (by first | exact Nat.le_of_ble_eq_true rfl | omega) (by first | exact Nat.le_of_ble_eq_true rfl | omega) ?_
          refine ⟨?_, _, hm⟩
          simp only [pm_frontv, c_e, c14, Bool.and_self, if_true, hEc, hKc]
          rw [← hK] at c27
          rw [pm_frA_at _ _ (by decide)] at c38
          rw [if_neg c27, if_neg c38]
          exact pm_frA_at _ _ (by omega)
        · rw [lg_cmp_eq] at c38
          refine lv_ldc2 (v := (-9223372036854775808)) hx hb C.hown (C.hts _ q1124) dX2_front_41 ?_
          refine lv_goto (tgt := 53) hx hb dX2_front_44 (by decide) ?_
          refine tf_retl C hw hr hlk dX2_front_53 (by first | exact Nat.le_of_ble_eq_true rfl | omega) (by first | exact Nat.le_of_ble_eq_true rfl | omega) ?_
          refine ⟨?_, _, hm⟩
          simp only [pm_frontv, c_e, c14, Bool.and_self, if_true, hEc, hKc]
          rw [← hK] at c27
          rw [pm_frA_at _ _ (by decide)] at c38
          rw [if_neg c27, if_pos c38]
    · replace c14 := pt_b0 c14
      refine lv_ldc2 (v := (-9223372036854775808)) hx hb C.hown (C.hts _ q1124) dX2_front_17 ?_
      refine tf_retl C hw hr hlk dX2_front_20 (by first | exact Nat.le_of_ble_eq_true rfl | omega) (by first | exact Nat.le_of_ble_eq_true rfl | omega) ?_
      refine ⟨?_, _, hm⟩
      rw [hk30] at c5
      simp [pm_frontv, c5, c14]

set_option maxHeartbeats 4000000 in
set_option maxRecDepth 100000 in
theorem metX2_errorOf {l : Launch} {S0 : State} {D : va_G} {dA : Nat → ClassId} (hB : tf_B S0 D dA) {sz : Nat} {G : tf_Pic} {mm : Nat} {ad : Nat → Nat} {iv : Nat → Int32} {ar : Nat → Nat → Int32} {fr : Nat → Int64} (hm : mo_W dA mm ad iv ar fr G) {nT nh nc nd ne nk : Nat} {hT kf kh : Nat → Nat} (hI : mo_I iv ar nT nh nc nd ne nk hT kf kh) {E : Nat} (hE : E < ne) {I : Nat} (hIb : I < kf (E + 1) - kf E) : Met l yX2_errorOf (ws_ yX2_errorOf cX2_errorOf 5 (some .long)) (tf_rm 2 0 0) (tf_Pc S0 D sz G [.ref mm, .int (nI E), .int (nI I)]) (tf_Ql S0 D sz G (fun r G1 => r = pm_err ar hT kh (kf E) (kf (E + 1) - kf E) fr I ∧ G1 = G)) 0 0 (tf_A G sz) := by
  refine Met.ofW (cc := cX2_errorOf) (maxL := 5) (ret := (some .long)) (by decide) rfl ?_
  intro p e s m args below meth c s₁ B hml hv
  obtain ⟨C, hw, hr, hlk, hin, hargs⟩ := tf_enter hB B hml hv
  subst hargs
  have C : tf_C p s m ([.ref mm, .int (nI E), .int (nI I)] : List Value).toArray c cX2_errorOf 5 RX2 S0 D dA := C
  have hx := C.hx
  have hb := C.hb
  change W p l e (tf_rm 2 0 0) s m ([.ref mm, .int (nI E), .int (nI I)] : List Value).toArray below meth c s.heap [] 0 0 (MQ below (tf_Ql S0 D sz G (fun r G1 => r = pm_err ar hT kh (kf E) (kf (E + 1) - kf E) fr I ∧ G1 = G)) ([.ref mm, .int (nI E), .int (nI I)] : List Value).toArray s 0 0 (tf_A G sz)) (entryFrame m ([.ref mm, .int (nI E), .int (nI I)] : List Value).toArray 5)
  have hI0 := hI
  obtain ⟨hk2, hnT, hk5, hnh, h6, hk10, hnc, hk14, hnd, hk30, hne, hk31, hnk, h32, hkf0, hkfn, hkfs, h33⟩ := hI
  have hE1 := hkfs E hE
  have hE2 := mo_le hkfs (e := E + 1) hE
  have h33j := h33 (kf E + I) (by omega)
  have h6j := h6 (kh (kf E + I)) h33j.2
  refine tf_start [.ref mm, .int (nI E), .int (nI I)] (Nat.le_of_ble_eq_true rfl) (fun ls hl => ?_)
  have hl : lv_has ls 5 [(0, .ref mm), (1, .int (nI E)), (2, .int (nI I))] := hl
  refine lv_aload_n hx hb dX2_errorOf_0 rfl (lv_at hl 0 rfl) ?_
  refine gf_X2_76 C hw hm.1 (v := .ref (ad 32)) rfl dX2_errorOf_1 ?_
  refine lv_iload_n hx hb dX2_errorOf_4 rfl (lv_at hl 1 rfl) ?_
  refine mo_ald (v := nI (kf E)) C hw hm 32 (by decide) (by decide) E rfl (show E < 241 by omega) (h32 E (by omega)) dX2_errorOf_5 ?_
  refine lv_iload_n hx hb dX2_errorOf_6 rfl (lv_at hl 2 rfl) ?_
  refine tf_iaddN hx hb (kf E) I rfl rfl dX2_errorOf_7 ?_
  refine lv_istore_n (lv' := [(3, .int (nI ((kf E) + I))), (0, .ref mm), (1, .int (nI E)), (2, .int (nI I))]) hx hb dX2_errorOf_8 rfl hl (by decide) rfl (fun ls hl => ?_)
  refine lv_aload_n hx hb dX2_errorOf_9 rfl (lv_at hl 1 rfl) ?_
  refine gf_X2_16 C hw hm.1 (v := .ref (ad 6)) rfl dX2_errorOf_10 ?_
  refine lv_aload_n hx hb dX2_errorOf_13 rfl (lv_at hl 1 rfl) ?_
  refine gf_X2_79 C hw hm.1 (v := .ref (ad 33)) rfl dX2_errorOf_14 ?_
  refine lv_iload_n hx hb dX2_errorOf_17 rfl (lv_at hl 0 rfl) ?_
  refine mo_ald (v := nI (kh ((kf E) + I))) C hw hm 33 (by decide) (by decide) ((kf E) + I) rfl (show (kf E) + I < 240 by omega) (h33 ((kf E) + I) (by omega)).1 dX2_errorOf_18 ?_
  refine mo_ald (v := nI (hT (kh ((kf E) + I)))) C hw hm 6 (by decide) (by decide) (kh ((kf E) + I)) rfl (show kh ((kf E) + I) < 240 by omega) (h6 (kh ((kf E) + I)) (by omega)).1 dX2_errorOf_19 ?_
  refine lv_istore (lv' := [(4, .int (nI (hT (kh ((kf E) + I))))), (3, .int (nI ((kf E) + I))), (0, .ref mm), (1, .int (nI E)), (2, .int (nI I))]) hx hb dX2_errorOf_20 hl (by decide) rfl (fun ls hl => ?_)
  refine lv_aload_n hx hb dX2_errorOf_22 rfl (lv_at hl 2 rfl) ?_
  refine gf_X2_82 C hw hm.1 (v := .ref (ad 34)) rfl dX2_errorOf_23 ?_
  refine lv_iload_n hx hb dX2_errorOf_26 rfl (lv_at hl 1 rfl) ?_
  refine mo_ald (v := ar 34 ((kf E) + I)) C hw hm 34 (by decide) (by decide) ((kf E) + I) rfl (show (kf E) + I < 240 by omega) rfl dX2_errorOf_27 ?_
  refine lv_aload_n hx hb dX2_errorOf_28 rfl (lv_at hl 2 rfl) ?_
  refine lv_iload_n hx hb dX2_errorOf_29 rfl (lv_at hl 3 rfl) ?_
  refine tf_goi (tf_V (n := 1) C hw hm.1 rfl [.int (nI E)] (metX2_leastTime hB hm hI0 hE) (lw_V q1180 q1182 qs36 q45 q1183) rfl ⟨by decide, by decide, by decide +kernel⟩ ⟨rfl, rfl, Nat.le_of_ble_eq_true rfl, Nat.le_of_ble_eq_true rfl, (by first | exact Nat.le_of_ble_eq_true rfl | (show _ ≤ 0; omega)), (by first | exact Nat.le_of_ble_eq_true rfl | (show _ ≤ 0; omega))⟩ rfl hl rfl (Nat.le_of_ble_eq_true rfl) dX2_errorOf_30) hw (fun r1 G1 H locs hp1 hw => ?_)
  obtain ⟨hre, hGe⟩ := hp1
  have hre : r1 = pm_leastL (ar 34) (kf E) (kf (E + 1) - kf E) := hre
  obtain rfl := hre.symm
  obtain rfl := hGe.symm
  refine lv_isub hx hb dX2_errorOf_33 ?_
  refine lv_i2l hx hb dX2_errorOf_34 rfl ?_
  refine lv_aload_n hx hb dX2_errorOf_35 rfl (lv_at hl 2 rfl) ?_
  refine gf_X2_94 C hw hm.1 (v := .ref (ad 39)) rfl dX2_errorOf_36 ?_
  refine lv_iconst (v := 0) hx hb dX2_errorOf_39 (by decide) ?_
  refine mo_lald C hw hm 0 rfl (show 0 < 4 by omega) rfl dX2_errorOf_40 ?_
  refine lv_lmul hx hb dX2_errorOf_41 ?_
  refine lv_aload_n hx hb dX2_errorOf_42 rfl (lv_at hl 2 rfl) ?_
  refine gf_X2_94 C hw hm.1 (v := .ref (ad 39)) rfl dX2_errorOf_43 ?_
  refine lv_iconst (v := 1) hx hb dX2_errorOf_46 (by decide) ?_
  refine mo_lald C hw hm 1 rfl (show 1 < 4 by omega) rfl dX2_errorOf_47 ?_
  refine lv_aload_n hx hb dX2_errorOf_48 rfl (lv_at hl 2 rfl) ?_
  refine gf_X2_94 C hw hm.1 (v := .ref (ad 39)) rfl dX2_errorOf_49 ?_
  refine lv_iconst (v := 2) hx hb dX2_errorOf_52 (by decide) ?_
  refine mo_lald C hw hm 2 rfl (show 2 < 4 by omega) rfl dX2_errorOf_53 ?_
  refine lv_aload_n hx hb dX2_errorOf_54 rfl (lv_at hl 2 rfl) ?_
  refine gf_X2_7 C hw hm.1 (v := .ref (ad 3)) rfl dX2_errorOf_55 ?_
  refine lv_iload hx hb dX2_errorOf_58 (lv_at hl 0 rfl) ?_
  refine mo_ald (v := ar 3 (hT (kh ((kf E) + I)))) C hw hm 3 (by decide) (by decide) (hT (kh ((kf E) + I))) rfl (show hT (kh ((kf E) + I)) < 30 by omega) rfl dX2_errorOf_60 ?_
  refine lv_i2l hx hb dX2_errorOf_61 rfl ?_
  refine lv_lmul hx hb dX2_errorOf_62 ?_
  refine lv_ladd hx hb dX2_errorOf_63 ?_
  refine lv_aload_n hx hb dX2_errorOf_64 rfl (lv_at hl 2 rfl) ?_
  refine gf_X2_94 C hw hm.1 (v := .ref (ad 39)) rfl dX2_errorOf_65 ?_
  refine lv_iconst (v := 3) hx hb dX2_errorOf_68 (by decide) ?_
  refine mo_lald C hw hm 3 rfl (show 3 < 4 by omega) rfl dX2_errorOf_69 ?_
  refine lv_aload_n hx hb dX2_errorOf_70 rfl (lv_at hl 2 rfl) ?_
  refine gf_X2_13 C hw hm.1 (v := .ref (ad 4)) rfl dX2_errorOf_71 ?_
  refine lv_iload hx hb dX2_errorOf_74 (lv_at hl 0 rfl) ?_
  refine mo_ald (v := ar 4 (hT (kh ((kf E) + I)))) C hw hm 4 (by decide) (by decide) (hT (kh ((kf E) + I))) rfl (show hT (kh ((kf E) + I)) < 30 by omega) rfl dX2_errorOf_76 ?_
  refine lv_i2l hx hb dX2_errorOf_77 rfl ?_
  refine lv_lmul hx hb dX2_errorOf_78 ?_
  refine lv_ladd hx hb dX2_errorOf_79 ?_
  refine lv_lsub hx hb dX2_errorOf_80 ?_
  exact tf_retl C hw hr hlk dX2_errorOf_81 (by first | exact Nat.le_of_ble_eq_true rfl | omega) (by first | exact Nat.le_of_ble_eq_true rfl | omega) (by exact ⟨rfl, rfl⟩)

set_option maxHeartbeats 4000000 in
set_option maxRecDepth 100000 in
theorem metX2_error {l : Launch} {S0 : State} {D : va_G} {dA : Nat → ClassId} (hB : tf_B S0 D dA) {sz : Nat} {G : tf_Pic} {mm : Nat} {ad : Nat → Nat} {iv : Nat → Int32} {ar : Nat → Nat → Int32} {fr : Nat → Int64} (hm : mo_W dA mm ad iv ar fr G) {nT nh nc nd ne nk : Nat} {hT kf kh : Nat → Nat} (hI : mo_I iv ar nT nh nc nd ne nk hT kf kh) (e0 i : Int32) : Met l yX2_error (ws_ yX2_error cX2_error 3 (some .long)) (tf_rm 3 0 0) (tf_Pc S0 D sz G [.ref mm, .int e0, .int i]) (tf_Ql S0 D sz G (fun r G1 => r = pm_errorv ar hT kf kh ne e0 i ∧ ∃ fr1, mo_W dA mm ad iv ar fr1 G1)) 0 0 (tf_A G sz) := by
  refine Met.ofW (cc := cX2_error) (maxL := 3) (ret := (some .long)) (by decide) rfl ?_
  intro p e s m args below meth c s₁ B hml hv
  obtain ⟨C, hw, hr, hlk, hin, hargs⟩ := tf_enter hB B hml hv
  subst hargs
  have C : tf_C p s m ([.ref mm, .int e0, .int i] : List Value).toArray c cX2_error 3 RX2 S0 D dA := C
  have hx := C.hx
  have hb := C.hb
  change W p l e (tf_rm 3 0 0) s m ([.ref mm, .int e0, .int i] : List Value).toArray below meth c s.heap [] 0 0 (MQ below (tf_Ql S0 D sz G (fun r G1 => r = pm_errorv ar hT kf kh ne e0 i ∧ ∃ fr1, mo_W dA mm ad iv ar fr1 G1)) ([.ref mm, .int e0, .int i] : List Value).toArray s 0 0 (tf_A G sz)) (entryFrame m ([.ref mm, .int e0, .int i] : List Value).toArray 3)
  have hI0 := hI
  obtain ⟨hk2, hnT, hk5, hnh, h6, hk10, hnc, hk14, hnd, hk30, hne, hk31, hnk, h32, hkf0, hkfn, hkfs, h33⟩ := hI
  refine tf_start [.ref mm, .int e0, .int i] (Nat.le_of_ble_eq_true rfl) (fun ls hl => ?_)
  have hl : lv_has ls 3 [(0, .ref mm), (1, .int e0), (2, .int i)] := hl
  refine lv_aload_n hx hb dX2_error_0 rfl (lv_at hl 0 rfl) ?_
  refine lv_iload_n hx hb dX2_error_1 rfl (lv_at hl 1 rfl) ?_
  refine lv_iload_n hx hb dX2_error_2 rfl (lv_at hl 2 rfl) ?_
  refine tf_goi (tf_V (n := 2) C hw hm.1 rfl [.int e0, .int i] (metX2_isMember hB hm hI0 e0 i) (lw_V q1188 q1190 qs37 q45 q1191) rfl ⟨by decide, by decide, by decide +kernel⟩ ⟨rfl, rfl, Nat.le_of_ble_eq_true rfl, Nat.le_of_ble_eq_true rfl, (by first | exact Nat.le_of_ble_eq_true rfl | (show _ ≤ 0; omega)), (by first | exact Nat.le_of_ble_eq_true rfl | (show _ ≤ 0; omega))⟩ rfl hl rfl (Nat.le_of_ble_eq_true rfl) dX2_error_3) hw (fun r1 G1 H locs hp1 hw => ?_)
  obtain ⟨hre, hGe⟩ := hp1
  have hre : r1 = pt_b (pm_mem kf ne e0 i) := hre
  obtain rfl := hre.symm
  obtain rfl := hGe.symm
  refine lv_if_ne (tgt := 13) hx hb dX2_error_6 (by decide) (fun c6 => ?_) (fun c6 => ?_)
  · replace c6 := pt_b1 c6
    have c_m := c6
    simp only [pm_mem, Bool.and_eq_true] at c_m
    obtain ⟨c_e, c_i⟩ := c_m
    obtain ⟨E, hE, hEe, hEc⟩ := pm_clof (by omega) c_e
    have hE1 := hkfs E hE
    have hE2 := mo_le hkfs (e := E + 1) hE
    rw [hEc] at c_i
    obtain ⟨I, hIb, hIe, hIc⟩ := pm_clof (by omega) c_i
    rw [hEe, hIe] at hl
    refine lv_aload_n hx hb dX2_error_13 rfl (lv_at hl 0 rfl) ?_
    refine lv_iload_n hx hb dX2_error_14 rfl (lv_at hl 1 rfl) ?_
    refine tf_gov (tf_V (n := 1) C hw hm.1 rfl [.int (nI E)] (metX2_makeFront hB hm hI0 hE) (lw_V q1196 q1198 qs38 q45 q1199) rfl ⟨by decide, by decide, by decide +kernel⟩ ⟨rfl, rfl, Nat.le_of_ble_eq_true rfl, Nat.le_of_ble_eq_true rfl, (by first | exact Nat.le_of_ble_eq_true rfl | (show _ ≤ 0; omega)), (by first | exact Nat.le_of_ble_eq_true rfl | (show _ ≤ 0; omega))⟩ rfl hl rfl (Nat.le_of_ble_eq_true rfl) dX2_error_15) hw (fun G2 H locs hp2 hw => ?_)
    have hm : mo_W dA mm ad iv ar (pm_frA fr (pm_Fr ar hT kh (kf E) (kf (E + 1) - kf E))) G2 := hp2
    refine lv_aload_n hx hb dX2_error_18 rfl (lv_at hl 0 rfl) ?_
    refine gf_X2_94 C hw hm.1 (v := .ref (ad 39)) rfl dX2_error_19 ?_
    refine lv_iconst (v := 0) hx hb dX2_error_22 (by decide) ?_
    refine mo_lald C hw hm 0 rfl (show 0 < 4 by omega) rfl dX2_error_23 ?_
    refine lv_lconst (v := 0) hx hb dX2_error_24 (by decide) ?_
    refine W.lcmp hx hb dX2_error_25 ?_
    refine lv_if_ne (tgt := 35) hx hb dX2_error_26 (by decide) (fun c26 => ?_) (fun c26 => ?_)
    · rw [lg_cmp_eq] at c26
      refine lv_aload_n hx hb dX2_error_35 rfl (lv_at hl 0 rfl) ?_
      refine lv_iload_n hx hb dX2_error_36 rfl (lv_at hl 1 rfl) ?_
      refine lv_iload_n hx hb dX2_error_37 rfl (lv_at hl 2 rfl) ?_
      refine tf_gol (tf_V (n := 2) C hw hm.1 rfl [.int (nI E), .int (nI I)] (metX2_errorOf hB hm hI0 hE (I := I) (by omega)) (lw_V q1207 q1209 qs39 q45 q1210) rfl ⟨by decide, by decide, by decide +kernel⟩ ⟨rfl, rfl, Nat.le_of_ble_eq_true rfl, Nat.le_of_ble_eq_true rfl, (by first | exact Nat.le_of_ble_eq_true rfl | (show _ ≤ 0; omega)), (by first | exact Nat.le_of_ble_eq_true rfl | (show _ ≤ 0; omega))⟩ rfl hl rfl (Nat.le_of_ble_eq_true rfl) dX2_error_38) hw (fun r3 G3 H locs hp3 hw => ?_)
      obtain ⟨hre, hGe⟩ := hp3
      have hre : r3 = pm_err ar hT kh (kf E) (kf (E + 1) - kf E) (pm_frA fr (pm_Fr ar hT kh (kf E) (kf (E + 1) - kf E))) I := hre
      obtain rfl := hre.symm
      obtain rfl := hGe.symm
      refine tf_retl C hw hr hlk dX2_error_41 (by first | exact Nat.le_of_ble_eq_true rfl | omega) (by first | exact Nat.le_of_ble_eq_true rfl | omega) ?_
      refine ⟨?_, _, hm⟩
      simp only [pm_errorv, c6, if_true, hEc, hIc]
      rw [pm_frA_at _ _ (by decide)] at c26
      rw [if_neg c26]
      exact pm_err_fr _ _ _ _ _ _ _ _
    · rw [lg_cmp_eq] at c26
      refine lv_ldc2 (v := (-9223372036854775808)) hx hb C.hown (C.hts _ q1124) dX2_error_29 ?_
      refine lv_goto (tgt := 41) hx hb dX2_error_32 (by decide) ?_
      refine tf_retl C hw hr hlk dX2_error_41 (by first | exact Nat.le_of_ble_eq_true rfl | omega) (by first | exact Nat.le_of_ble_eq_true rfl | omega) ?_
      refine ⟨?_, _, hm⟩
      simp only [pm_errorv, c6, if_true, hEc, hIc]
      rw [pm_frA_at _ _ (by decide)] at c26
      rw [if_pos c26]
  · replace c6 := pt_b0 c6
    refine lv_ldc2 (v := (-9223372036854775808)) hx hb C.hown (C.hts _ q1124) dX2_error_9 ?_
    exact tf_retl C hw hr hlk dX2_error_12 (by first | exact Nat.le_of_ble_eq_true rfl | omega) (by first | exact Nat.le_of_ble_eq_true rfl | omega) (by refine ⟨?_, _, hm⟩; simp [pm_errorv, c6])
