/-! MODULE TankFieldModel, part 6: the worst, the core, what is new -/
set_option maxRecDepth 100000
def pm_abs (v : Int64) : Int64 := if 0 ≤ v then v else -v
def pm_worstL (er : Nat → Int64) : Nat → Nat × Int64
  | 0 => (0, -1)
  | i + 1 => if pm_abs (er i) ≤ (pm_worstL er i).2 then pm_worstL er i else (i, pm_abs (er i))
theorem pm_worst_le (er : Nat → Int64) : ∀ i, (pm_worstL er i).1 ≤ i := by
  intro i
  induction i with
  | zero => exact Nat.le_refl _
  | succ i ih =>
    simp only [pm_worstL]
    split
    · omega
    · show i ≤ i + 1; omega
def pm_worst (ar : Nat → Nat → Int32) (hT kf kh : Nat → Nat) (ne : Nat) (e : Int32) : Int32 := if pm_of e (nI ne) then (if pm_Fr ar hT kh (kf e.toNatClampNeg) (kf (e.toNatClampNeg + 1) - kf e.toNatClampNeg) 0 = 0 then -9 else nI (pm_worstL (pm_err ar hT kh (kf e.toNatClampNeg) (kf (e.toNatClampNeg + 1) - kf e.toNatClampNeg) (pm_Fr ar hT kh (kf e.toNatClampNeg) (kf (e.toNatClampNeg + 1) - kf e.toNatClampNeg))) (kf (e.toNatClampNeg + 1) - kf e.toNatClampNeg)).1) else -1

set_option maxHeartbeats 4000000 in
set_option maxRecDepth 100000 in
theorem metX2_worst {l : Launch} {S0 : State} {D : va_G} {dA : Nat → ClassId} (hB : tf_B S0 D dA) {sz : Nat} {G : tf_Pic} {mm : Nat} {ad : Nat → Nat} {iv : Nat → Int32} {ar : Nat → Nat → Int32} {fr : Nat → Int64} (hm : mo_W dA mm ad iv ar fr G) {nT nh nc nd ne nk : Nat} {hT kf kh : Nat → Nat} (hI : mo_I iv ar nT nh nc nd ne nk hT kf kh) (e0 : Int32) : Met l yX2_worst (ws_ yX2_worst cX2_worst 8 (some .int)) (tf_rm 4 0 0) (tf_Pc S0 D sz G [.ref mm, .int e0]) (tf_Qi S0 D sz G (fun r G1 => r = pm_worst ar hT kf kh ne e0 ∧ ∃ fr1, mo_W dA mm ad iv ar fr1 G1)) 0 0 (tf_A G sz) := by
  refine Met.ofW (cc := cX2_worst) (maxL := 8) (ret := (some .int)) (by decide) rfl ?_
  intro p e s m args below meth c s₁ B hml hv
  obtain ⟨C, hw, hr, hlk, hin, hargs⟩ := tf_enter hB B hml hv
  subst hargs
  have C : tf_C p s m ([.ref mm, .int e0] : List Value).toArray c cX2_worst 8 RX2 S0 D dA := C
  have hx := C.hx
  have hb := C.hb
  change W p l e (tf_rm 4 0 0) s m ([.ref mm, .int e0] : List Value).toArray below meth c s.heap [] 0 0 (MQ below (tf_Qi S0 D sz G (fun r G1 => r = pm_worst ar hT kf kh ne e0 ∧ ∃ fr1, mo_W dA mm ad iv ar fr1 G1)) ([.ref mm, .int e0] : List Value).toArray s 0 0 (tf_A G sz)) (entryFrame m ([.ref mm, .int e0] : List Value).toArray 8)
  have hI0 := hI
  obtain ⟨hk2, hnT, hk5, hnh, h6, hk10, hnc, hk14, hnd, hk30, hne, hk31, hnk, h32, hkf0, hkfn, hkfs, h33⟩ := hI
  refine tf_start [.ref mm, .int e0] (Nat.le_of_ble_eq_true rfl) (fun ls hl => ?_)
  have hl : lv_has ls 8 [(0, .ref mm), (1, .int e0)] := hl
  refine lv_aload_n hx hb dX2_worst_0 rfl (lv_at hl 0 rfl) ?_
  refine lv_iload_n hx hb dX2_worst_1 rfl (lv_at hl 1 rfl) ?_
  refine tf_goi (tf_V (n := 1) C hw hm.1 rfl [.int e0] (metX2_isEvent hB hm e0) (lw_V q1168 q1170 qs35 q45 q1171) rfl ⟨by decide, by decide, by decide +kernel⟩ ⟨rfl, rfl, Nat.le_of_ble_eq_true rfl, Nat.le_of_ble_eq_true rfl, (by first | exact Nat.le_of_ble_eq_true rfl | (show _ ≤ 0; omega)), (by first | exact Nat.le_of_ble_eq_true rfl | (show _ ≤ 0; omega))⟩ rfl hl rfl (Nat.le_of_ble_eq_true rfl) dX2_worst_2) hw (fun r1 G1 H locs hp1 hw => ?_)
  obtain ⟨hre, hGe⟩ := hp1
  have hre : r1 = pt_b (pm_of e0 (iv 30)) := hre
  obtain rfl := hre.symm
  obtain rfl := hGe.symm
  refine lv_if_ne (tgt := 10) hx hb dX2_worst_5 (by decide) (fun c5 => ?_) (fun c5 => ?_)
  · replace c5 := pt_b1 c5
    have c_e := c5
    rw [hk30] at c_e
    obtain ⟨E, hE, hEe, hEc⟩ := pm_clof (by omega) c_e
    rw [hEe] at hl
    have hE1 := hkfs E hE
    have hE2 := mo_le hkfs (e := E + 1) hE
    refine lv_aload_n hx hb dX2_worst_10 rfl (lv_at hl 0 rfl) ?_
    refine lv_iload_n hx hb dX2_worst_11 rfl (lv_at hl 1 rfl) ?_
    refine tf_gov (tf_V (n := 1) C hw hm.1 rfl [.int (nI E)] (metX2_makeFront hB hm hI0 hE) (lw_V q1196 q1198 qs38 q45 q1199) rfl ⟨by decide, by decide, by decide +kernel⟩ ⟨rfl, rfl, Nat.le_of_ble_eq_true rfl, Nat.le_of_ble_eq_true rfl, (by first | exact Nat.le_of_ble_eq_true rfl | (show _ ≤ 0; omega)), (by first | exact Nat.le_of_ble_eq_true rfl | (show _ ≤ 0; omega))⟩ rfl hl rfl (Nat.le_of_ble_eq_true rfl) dX2_worst_12) hw (fun G2 H locs hp2 hw => ?_)
    have hm : mo_W dA mm ad iv ar (pm_frA fr (pm_Fr ar hT kh (kf E) (kf (E + 1) - kf E))) G2 := hp2
    refine lv_aload_n hx hb dX2_worst_15 rfl (lv_at hl 0 rfl) ?_
    refine gf_X2_94 C hw hm.1 (v := .ref (ad 39)) rfl dX2_worst_16 ?_
    refine lv_iconst (v := 0) hx hb dX2_worst_19 (by decide) ?_
    refine mo_lald C hw hm 0 rfl (show 0 < 4 by omega) rfl dX2_worst_20 ?_
    refine lv_lconst (v := 0) hx hb dX2_worst_21 (by decide) ?_
    refine W.lcmp hx hb dX2_worst_22 ?_
    refine lv_if_ne (tgt := 29) hx hb dX2_worst_23 (by decide) (fun c23 => ?_) (fun c23 => ?_)
    · rw [lg_cmp_eq] at c23
      refine lv_iconst (v := 0) hx hb dX2_worst_29 (by decide) ?_
      refine lv_istore_n (lv' := [(2, .int 0), (0, .ref mm), (1, .int (nI E))]) hx hb dX2_worst_30 rfl hl (by decide) rfl (fun ls hl => ?_)
      refine lv_ldc2 (v := (-1)) hx hb C.hown (C.hts _ q1215) dX2_worst_31 ?_
      refine lv_lstore_n (lv' := [(3, .long ((-1))), (2, .int 0), (0, .ref mm), (1, .int (nI E))]) hx hb dX2_worst_34 rfl hl (by decide) rfl (fun ls hl => ?_)
      refine lv_iconst (v := 0) hx hb dX2_worst_35 (by decide) ?_
      refine lv_istore (lv' := [(5, .int 0), (3, .long ((-1))), (2, .int 0), (0, .ref mm), (1, .int (nI E))]) hx hb dX2_worst_36 hl (by decide) rfl (fun ls hl => ?_)
      have b38 : ∀ (fuel : Nat) (i : Nat), kf (E + 1) - kf E - i < fuel → (i ≤ kf (E + 1) - kf E) → ∀ (H : Heap) (locs : List Loc), tf_Wd S0 D (tf_A G sz) s.heap G2 H locs → ∀ (ls : Array Slot), lv_has ls 8 [(5, .int (nI i)), (3, .long ((pm_worstL (pm_err ar hT kh (kf E) (kf (E + 1) - kf E) (pm_Fr ar hT kh (kf E) (kf (E + 1) - kf E))) i).2)), (2, .int (nI ((pm_worstL (pm_err ar hT kh (kf E) (kf (E + 1) - kf E) (pm_Fr ar hT kh (kf E) (kf (E + 1) - kf E))) i).1))), (0, .ref mm), (1, .int (nI E))] → W p l e (tf_rm 4 0 0) s m ([.ref mm, .int e0] : List Value).toArray below meth c H locs 0 0 (MQ below (tf_Qi S0 D sz G (fun r G1 => r = pm_worst ar hT kf kh ne e0 ∧ ∃ fr1, mo_W dA mm ad iv ar fr1 G1)) ([.ref mm, .int e0] : List Value).toArray s 0 0 (tf_A G sz)) (F0 m 38 ls []) := by
        intro fuel38
        induction fuel38 with
        | zero => intro i hfu38; exact absurd hfu38 (Nat.not_lt_zero _)
        | succ fuel38 ih38 =>
          intro i hfu38 hi H locs hw ls hl
          refine lv_iload hx hb dX2_worst_38 (lv_at hl 0 rfl) ?_
          refine lv_aload_n hx hb dX2_worst_40 rfl (lv_at hl 3 rfl) ?_
          refine gf_X2_76 C hw hm.1 (v := .ref (ad 32)) rfl dX2_worst_41 ?_
          refine lv_iload_n hx hb dX2_worst_44 rfl (lv_at hl 4 rfl) ?_
          refine lv_iconst (v := 1) hx hb dX2_worst_45 (by decide) ?_
          refine tf_iaddN hx hb E 1 rfl rfl dX2_worst_46 ?_
          refine mo_ald (v := nI (kf (E + 1))) C hw hm 32 (by decide) (by decide) (E + 1) rfl (show E + 1 < 241 by omega) (h32 (E + 1) (by omega)) dX2_worst_47 ?_
          refine lv_aload_n hx hb dX2_worst_48 rfl (lv_at hl 3 rfl) ?_
          refine gf_X2_76 C hw hm.1 (v := .ref (ad 32)) rfl dX2_worst_49 ?_
          refine lv_iload_n hx hb dX2_worst_52 rfl (lv_at hl 4 rfl) ?_
          refine mo_ald (v := nI (kf E)) C hw hm 32 (by decide) (by decide) E rfl (show E < 241 by omega) (h32 E (by omega)) dX2_worst_53 ?_
          refine tf_isubN hx hb (kf (E + 1)) (kf E) rfl rfl (by omega) dX2_worst_54 ?_
          refine tf_icmp_geN hx hb i ((kf (E + 1)) - (kf E)) rfl rfl (tgt := 103) dX2_worst_55 (by decide) (by omega) (by omega) (fun c55 => ?_) (fun c55 => ?_)
          · refine lv_iload_n hx hb dX2_worst_103 rfl (lv_at hl 2 rfl) ?_
            refine tf_reti C hw hr hlk dX2_worst_104 (by first | exact Nat.le_of_ble_eq_true rfl | omega) (by first | exact Nat.le_of_ble_eq_true rfl | omega) ?_
            refine ⟨?_, _, hm⟩
            simp only [pm_worst, c_e, if_true, hEc]
            rw [pm_frA_at _ _ (by decide)] at c23
            rw [if_neg c23, show kf (E + 1) - kf E = i by omega]
          · refine lv_aload_n hx hb dX2_worst_58 rfl (lv_at hl 3 rfl) ?_
            refine lv_iload_n hx hb dX2_worst_59 rfl (lv_at hl 4 rfl) ?_
            refine lv_iload hx hb dX2_worst_60 (lv_at hl 0 rfl) ?_
            refine tf_gol (tf_V (n := 2) C hw hm.1 rfl [.int (nI E), .int (nI i)] (metX2_errorOf hB hm hI0 hE (I := i) (by omega)) (lw_V q1207 q1209 qs39 q45 q1210) rfl ⟨by decide, by decide, by decide +kernel⟩ ⟨rfl, rfl, Nat.le_of_ble_eq_true rfl, Nat.le_of_ble_eq_true rfl, (by first | exact Nat.le_of_ble_eq_true rfl | (show _ ≤ 0; omega)), (by first | exact Nat.le_of_ble_eq_true rfl | (show _ ≤ 0; omega))⟩ rfl hl rfl (Nat.le_of_ble_eq_true rfl) dX2_worst_62) hw (fun r3 G3 H locs hp3 hw => ?_)
            obtain ⟨hre, hGe⟩ := hp3
            rw [pm_err_fr] at hre
            obtain rfl := hre.symm
            obtain rfl := hGe.symm
            refine lv_lstore (lv' := [(6, .long ((pm_err ar hT kh (kf E) (kf (E + 1) - kf E) (pm_Fr ar hT kh (kf E) (kf (E + 1) - kf E))) i)), (5, .int (nI i)), (3, .long ((pm_worstL (pm_err ar hT kh (kf E) (kf (E + 1) - kf E) (pm_Fr ar hT kh (kf E) (kf (E + 1) - kf E))) i).2)), (2, .int (nI ((pm_worstL (pm_err ar hT kh (kf E) (kf (E + 1) - kf E) (pm_Fr ar hT kh (kf E) (kf (E + 1) - kf E))) i).1))), (0, .ref mm), (1, .int (nI E))]) hx hb dX2_worst_65 hl (by decide) rfl (fun ls hl => ?_)
            refine lv_lload hx hb dX2_worst_67 (lv_at hl 0 rfl) ?_
            refine lv_lconst (v := 0) hx hb dX2_worst_69 (by decide) ?_
            refine W.lcmp hx hb dX2_worst_70 ?_
            refine lv_if_ge (tgt := 80) hx hb dX2_worst_71 (by decide) (fun c71 => ?_) (fun c71 => ?_)
            · rw [lg_cmp_ge] at c71
              refine lv_lload hx hb dX2_worst_80 (lv_at hl 0 rfl) ?_
              refine lv_lstore (lv' := [(6, .long ((pm_err ar hT kh (kf E) (kf (E + 1) - kf E) (pm_Fr ar hT kh (kf E) (kf (E + 1) - kf E))) i)), (5, .int (nI i)), (3, .long ((pm_worstL (pm_err ar hT kh (kf E) (kf (E + 1) - kf E) (pm_Fr ar hT kh (kf E) (kf (E + 1) - kf E))) i).2)), (2, .int (nI ((pm_worstL (pm_err ar hT kh (kf E) (kf (E + 1) - kf E) (pm_Fr ar hT kh (kf E) (kf (E + 1) - kf E))) i).1))), (0, .ref mm), (1, .int (nI E))]) hx hb dX2_worst_82 hl (by decide) rfl (fun ls hl => ?_)
              refine lv_lload hx hb dX2_worst_84 (lv_at hl 0 rfl) ?_
              refine lv_lload_n hx hb dX2_worst_86 rfl (lv_at hl 2 rfl) ?_
              refine W.lcmp hx hb dX2_worst_87 ?_
              refine lv_if_le (tgt := 97) hx hb dX2_worst_88 (by decide) (fun c88 => ?_) (fun c88 => ?_)
              · rw [lg_cmp_le] at c88
                have hab : pm_abs ((pm_err ar hT kh (kf E) (kf (E + 1) - kf E) (pm_Fr ar hT kh (kf E) (kf (E + 1) - kf E))) i) = (pm_err ar hT kh (kf E) (kf (E + 1) - kf E) (pm_Fr ar hT kh (kf E) (kf (E + 1) - kf E))) i := by simp only [pm_abs, if_pos c71]
                have hwe : pm_worstL (pm_err ar hT kh (kf E) (kf (E + 1) - kf E) (pm_Fr ar hT kh (kf E) (kf (E + 1) - kf E))) (i + 1) = ((pm_worstL (pm_err ar hT kh (kf E) (kf (E + 1) - kf E) (pm_Fr ar hT kh (kf E) (kf (E + 1) - kf E))) i).1, (pm_worstL (pm_err ar hT kh (kf E) (kf (E + 1) - kf E) (pm_Fr ar hT kh (kf E) (kf (E + 1) - kf E))) i).2) := by simp only [pm_worstL, hab, if_pos c88]
                have hl : lv_has ls 8 [(6, .long ((pm_err ar hT kh (kf E) (kf (E + 1) - kf E) (pm_Fr ar hT kh (kf E) (kf (E + 1) - kf E))) i)), (5, .int (nI i)), (3, .long ((pm_worstL (pm_err ar hT kh (kf E) (kf (E + 1) - kf E) (pm_Fr ar hT kh (kf E) (kf (E + 1) - kf E))) (i + 1)).2)), (2, .int (nI ((pm_worstL (pm_err ar hT kh (kf E) (kf (E + 1) - kf E) (pm_Fr ar hT kh (kf E) (kf (E + 1) - kf E))) (i + 1)).1))), (0, .ref mm), (1, .int (nI E))] := by rw [hwe]; exact hl
                refine lv_iinc (v := nI (i + 1)) (lv' := [(5, .int (nI (i + 1))), (6, .long ((pm_err ar hT kh (kf E) (kf (E + 1) - kf E) (pm_Fr ar hT kh (kf E) (kf (E + 1) - kf E))) i)), (3, .long ((pm_worstL (pm_err ar hT kh (kf E) (kf (E + 1) - kf E) (pm_Fr ar hT kh (kf E) (kf (E + 1) - kf E))) (i + 1)).2)), (2, .int (nI ((pm_worstL (pm_err ar hT kh (kf E) (kf (E + 1) - kf E) (pm_Fr ar hT kh (kf E) (kf (E + 1) - kf E))) (i + 1)).1))), (0, .ref mm), (1, .int (nI E))]) hx hb dX2_worst_97 hl (k := 1) rfl (nI_1 _) (by decide) rfl (fun ls hl => ?_)
                refine lv_goto (tgt := 38) hx hb dX2_worst_100 (by decide) ?_
                exact ih38 (i + 1) (by omega) (by omega) _ _ hw ls (lv_sub hl [0, 2, 3, 4, 5] rfl)
              · rw [lg_cmp_le] at c88
                refine lv_lload hx hb dX2_worst_91 (lv_at hl 0 rfl) ?_
                refine lv_lstore_n (lv' := [(3, .long ((pm_err ar hT kh (kf E) (kf (E + 1) - kf E) (pm_Fr ar hT kh (kf E) (kf (E + 1) - kf E))) i)), (6, .long ((pm_err ar hT kh (kf E) (kf (E + 1) - kf E) (pm_Fr ar hT kh (kf E) (kf (E + 1) - kf E))) i)), (5, .int (nI i)), (2, .int (nI ((pm_worstL (pm_err ar hT kh (kf E) (kf (E + 1) - kf E) (pm_Fr ar hT kh (kf E) (kf (E + 1) - kf E))) i).1))), (0, .ref mm), (1, .int (nI E))]) hx hb dX2_worst_93 rfl hl (by decide) rfl (fun ls hl => ?_)
                refine lv_iload hx hb dX2_worst_94 (lv_at hl 2 rfl) ?_
                refine lv_istore_n (lv' := [(2, .int (nI i)), (3, .long ((pm_err ar hT kh (kf E) (kf (E + 1) - kf E) (pm_Fr ar hT kh (kf E) (kf (E + 1) - kf E))) i)), (6, .long ((pm_err ar hT kh (kf E) (kf (E + 1) - kf E) (pm_Fr ar hT kh (kf E) (kf (E + 1) - kf E))) i)), (5, .int (nI i)), (0, .ref mm), (1, .int (nI E))]) hx hb dX2_worst_96 rfl hl (by decide) rfl (fun ls hl => ?_)
                have hab : pm_abs ((pm_err ar hT kh (kf E) (kf (E + 1) - kf E) (pm_Fr ar hT kh (kf E) (kf (E + 1) - kf E))) i) = (pm_err ar hT kh (kf E) (kf (E + 1) - kf E) (pm_Fr ar hT kh (kf E) (kf (E + 1) - kf E))) i := by simp only [pm_abs, if_pos c71]
                have hwe : pm_worstL (pm_err ar hT kh (kf E) (kf (E + 1) - kf E) (pm_Fr ar hT kh (kf E) (kf (E + 1) - kf E))) (i + 1) = (i, (pm_err ar hT kh (kf E) (kf (E + 1) - kf E) (pm_Fr ar hT kh (kf E) (kf (E + 1) - kf E))) i) := by simp only [pm_worstL, hab, if_neg c88]
                have hl : lv_has ls 8 [(2, .int (nI ((pm_worstL (pm_err ar hT kh (kf E) (kf (E + 1) - kf E) (pm_Fr ar hT kh (kf E) (kf (E + 1) - kf E))) (i + 1)).1))), (3, .long ((pm_worstL (pm_err ar hT kh (kf E) (kf (E + 1) - kf E) (pm_Fr ar hT kh (kf E) (kf (E + 1) - kf E))) (i + 1)).2)), (6, .long ((pm_err ar hT kh (kf E) (kf (E + 1) - kf E) (pm_Fr ar hT kh (kf E) (kf (E + 1) - kf E))) i)), (5, .int (nI i)), (0, .ref mm), (1, .int (nI E))] := by rw [hwe]; exact hl
                refine lv_iinc (v := nI (i + 1)) (lv' := [(5, .int (nI (i + 1))), (2, .int (nI ((pm_worstL (pm_err ar hT kh (kf E) (kf (E + 1) - kf E) (pm_Fr ar hT kh (kf E) (kf (E + 1) - kf E))) (i + 1)).1))), (3, .long ((pm_worstL (pm_err ar hT kh (kf E) (kf (E + 1) - kf E) (pm_Fr ar hT kh (kf E) (kf (E + 1) - kf E))) (i + 1)).2)), (6, .long ((pm_err ar hT kh (kf E) (kf (E + 1) - kf E) (pm_Fr ar hT kh (kf E) (kf (E + 1) - kf E))) i)), (0, .ref mm), (1, .int (nI E))]) hx hb dX2_worst_97 hl (k := 3) rfl (nI_1 _) (by decide) rfl (fun ls hl => ?_)
                refine lv_goto (tgt := 38) hx hb dX2_worst_100 (by decide) ?_
                exact ih38 (i + 1) (by omega) (by omega) _ _ hw ls (lv_sub hl [0, 2, 1, 4, 5] rfl)
            · rw [lg_cmp_ge] at c71
              refine lv_lload hx hb dX2_worst_74 (lv_at hl 0 rfl) ?_
              refine lv_lneg hx hb dX2_worst_76 ?_
              refine lv_goto (tgt := 82) hx hb dX2_worst_77 (by decide) ?_
              refine lv_lstore (lv' := [(6, .long (-((pm_err ar hT kh (kf E) (kf (E + 1) - kf E) (pm_Fr ar hT kh (kf E) (kf (E + 1) - kf E))) i))), (5, .int (nI i)), (3, .long ((pm_worstL (pm_err ar hT kh (kf E) (kf (E + 1) - kf E) (pm_Fr ar hT kh (kf E) (kf (E + 1) - kf E))) i).2)), (2, .int (nI ((pm_worstL (pm_err ar hT kh (kf E) (kf (E + 1) - kf E) (pm_Fr ar hT kh (kf E) (kf (E + 1) - kf E))) i).1))), (0, .ref mm), (1, .int (nI E))]) hx hb dX2_worst_82 hl (by decide) rfl (fun ls hl => ?_)
              refine lv_lload hx hb dX2_worst_84 (lv_at hl 0 rfl) ?_
              refine lv_lload_n hx hb dX2_worst_86 rfl (lv_at hl 2 rfl) ?_
              refine W.lcmp hx hb dX2_worst_87 ?_
              refine lv_if_le (tgt := 97) hx hb dX2_worst_88 (by decide) (fun c88 => ?_) (fun c88 => ?_)
              · rw [lg_cmp_le] at c88
                have hab : pm_abs ((pm_err ar hT kh (kf E) (kf (E + 1) - kf E) (pm_Fr ar hT kh (kf E) (kf (E + 1) - kf E))) i) = -((pm_err ar hT kh (kf E) (kf (E + 1) - kf E) (pm_Fr ar hT kh (kf E) (kf (E + 1) - kf E))) i) := by simp only [pm_abs, if_neg c71]
                have hwe : pm_worstL (pm_err ar hT kh (kf E) (kf (E + 1) - kf E) (pm_Fr ar hT kh (kf E) (kf (E + 1) - kf E))) (i + 1) = ((pm_worstL (pm_err ar hT kh (kf E) (kf (E + 1) - kf E) (pm_Fr ar hT kh (kf E) (kf (E + 1) - kf E))) i).1, (pm_worstL (pm_err ar hT kh (kf E) (kf (E + 1) - kf E) (pm_Fr ar hT kh (kf E) (kf (E + 1) - kf E))) i).2) := by simp only [pm_worstL, hab, if_pos c88]
                have hl : lv_has ls 8 [(6, .long (-((pm_err ar hT kh (kf E) (kf (E + 1) - kf E) (pm_Fr ar hT kh (kf E) (kf (E + 1) - kf E))) i))), (5, .int (nI i)), (3, .long ((pm_worstL (pm_err ar hT kh (kf E) (kf (E + 1) - kf E) (pm_Fr ar hT kh (kf E) (kf (E + 1) - kf E))) (i + 1)).2)), (2, .int (nI ((pm_worstL (pm_err ar hT kh (kf E) (kf (E + 1) - kf E) (pm_Fr ar hT kh (kf E) (kf (E + 1) - kf E))) (i + 1)).1))), (0, .ref mm), (1, .int (nI E))] := by rw [hwe]; exact hl
                refine lv_iinc (v := nI (i + 1)) (lv' := [(5, .int (nI (i + 1))), (6, .long (-((pm_err ar hT kh (kf E) (kf (E + 1) - kf E) (pm_Fr ar hT kh (kf E) (kf (E + 1) - kf E))) i))), (3, .long ((pm_worstL (pm_err ar hT kh (kf E) (kf (E + 1) - kf E) (pm_Fr ar hT kh (kf E) (kf (E + 1) - kf E))) (i + 1)).2)), (2, .int (nI ((pm_worstL (pm_err ar hT kh (kf E) (kf (E + 1) - kf E) (pm_Fr ar hT kh (kf E) (kf (E + 1) - kf E))) (i + 1)).1))), (0, .ref mm), (1, .int (nI E))]) hx hb dX2_worst_97 hl (k := 1) rfl (nI_1 _) (by decide) rfl (fun ls hl => ?_)
                refine lv_goto (tgt := 38) hx hb dX2_worst_100 (by decide) ?_
                exact ih38 (i + 1) (by omega) (by omega) _ _ hw ls (lv_sub hl [0, 2, 3, 4, 5] rfl)
              · rw [lg_cmp_le] at c88
                refine lv_lload hx hb dX2_worst_91 (lv_at hl 0 rfl) ?_
                refine lv_lstore_n (lv' := [(3, .long (-((pm_err ar hT kh (kf E) (kf (E + 1) - kf E) (pm_Fr ar hT kh (kf E) (kf (E + 1) - kf E))) i))), (6, .long (-((pm_err ar hT kh (kf E) (kf (E + 1) - kf E) (pm_Fr ar hT kh (kf E) (kf (E + 1) - kf E))) i))), (5, .int (nI i)), (2, .int (nI ((pm_worstL (pm_err ar hT kh (kf E) (kf (E + 1) - kf E) (pm_Fr ar hT kh (kf E) (kf (E + 1) - kf E))) i).1))), (0, .ref mm), (1, .int (nI E))]) hx hb dX2_worst_93 rfl hl (by decide) rfl (fun ls hl => ?_)
                refine lv_iload hx hb dX2_worst_94 (lv_at hl 2 rfl) ?_
                refine lv_istore_n (lv' := [(2, .int (nI i)), (3, .long (-((pm_err ar hT kh (kf E) (kf (E + 1) - kf E) (pm_Fr ar hT kh (kf E) (kf (E + 1) - kf E))) i))), (6, .long (-((pm_err ar hT kh (kf E) (kf (E + 1) - kf E) (pm_Fr ar hT kh (kf E) (kf (E + 1) - kf E))) i))), (5, .int (nI i)), (0, .ref mm), (1, .int (nI E))]) hx hb dX2_worst_96 rfl hl (by decide) rfl (fun ls hl => ?_)
                have hab : pm_abs ((pm_err ar hT kh (kf E) (kf (E + 1) - kf E) (pm_Fr ar hT kh (kf E) (kf (E + 1) - kf E))) i) = -((pm_err ar hT kh (kf E) (kf (E + 1) - kf E) (pm_Fr ar hT kh (kf E) (kf (E + 1) - kf E))) i) := by simp only [pm_abs, if_neg c71]
                have hwe : pm_worstL (pm_err ar hT kh (kf E) (kf (E + 1) - kf E) (pm_Fr ar hT kh (kf E) (kf (E + 1) - kf E))) (i + 1) = (i, -((pm_err ar hT kh (kf E) (kf (E + 1) - kf E) (pm_Fr ar hT kh (kf E) (kf (E + 1) - kf E))) i)) := by simp only [pm_worstL, hab, if_neg c88]
                have hl : lv_has ls 8 [(2, .int (nI ((pm_worstL (pm_err ar hT kh (kf E) (kf (E + 1) - kf E) (pm_Fr ar hT kh (kf E) (kf (E + 1) - kf E))) (i + 1)).1))), (3, .long ((pm_worstL (pm_err ar hT kh (kf E) (kf (E + 1) - kf E) (pm_Fr ar hT kh (kf E) (kf (E + 1) - kf E))) (i + 1)).2)), (6, .long (-((pm_err ar hT kh (kf E) (kf (E + 1) - kf E) (pm_Fr ar hT kh (kf E) (kf (E + 1) - kf E))) i))), (5, .int (nI i)), (0, .ref mm), (1, .int (nI E))] := by rw [hwe]; exact hl
                refine lv_iinc (v := nI (i + 1)) (lv' := [(5, .int (nI (i + 1))), (2, .int (nI ((pm_worstL (pm_err ar hT kh (kf E) (kf (E + 1) - kf E) (pm_Fr ar hT kh (kf E) (kf (E + 1) - kf E))) (i + 1)).1))), (3, .long ((pm_worstL (pm_err ar hT kh (kf E) (kf (E + 1) - kf E) (pm_Fr ar hT kh (kf E) (kf (E + 1) - kf E))) (i + 1)).2)), (6, .long (-((pm_err ar hT kh (kf E) (kf (E + 1) - kf E) (pm_Fr ar hT kh (kf E) (kf (E + 1) - kf E))) i))), (0, .ref mm), (1, .int (nI E))]) hx hb dX2_worst_97 hl (k := 3) rfl (nI_1 _) (by decide) rfl (fun ls hl => ?_)
                refine lv_goto (tgt := 38) hx hb dX2_worst_100 (by decide) ?_
                exact ih38 (i + 1) (by omega) (by omega) _ _ hw ls (lv_sub hl [0, 2, 1, 4, 5] rfl)
      exact b38 (kf (E + 1) - kf E + 1) 0 (by omega) (by omega) _ _ hw ls hl
    · rw [lg_cmp_eq] at c23
      refine lv_bipush (v := (-9)) hx hb dX2_worst_26 (by decide) ?_
      refine tf_reti C hw hr hlk dX2_worst_28 (by first | exact Nat.le_of_ble_eq_true rfl | omega) (by first | exact Nat.le_of_ble_eq_true rfl | omega) ?_
      refine ⟨?_, _, hm⟩
      simp only [pm_worst, c_e, if_true, hEc]
      rw [pm_frA_at _ _ (by decide)] at c23
      rw [if_pos c23]
  · replace c5 := pt_b0 c5
    refine lv_iconst (v := (-1)) hx hb dX2_worst_8 (by decide) ?_
    refine tf_reti C hw hr hlk dX2_worst_9 (by first | exact Nat.le_of_ble_eq_true rfl | omega) (by first | exact Nat.le_of_ble_eq_true rfl | omega) ?_
    refine ⟨?_, _, hm⟩
    rw [hk30] at c5
    simp [pm_worst, c5]

/-- what a member's place is worth: its x, its y, 1 -/
def pm_wt (ar : Nat → Nat → Int32) (hT : Nat → Nat) (what : Int32) (h : Nat) : Int32 := if what = 0 then ar 3 (hT h) else if what = 1 then ar 4 (hT h) else 1
def pm_core (ar : Nat → Nat → Int32) (hT kf kh : Nat → Nat) (ne : Nat) (e what : Int32) : Int64 := if pm_of e (nI ne) && pm_in what 0 2 then pm_sum (fun j => (pm_amt ar (kh (kf e.toNatClampNeg + j))).toInt64 * (pm_wt ar hT what (kh (kf e.toNatClampNeg + j))).toInt64) (kf (e.toNatClampNeg + 1) - kf e.toNatClampNeg) else -9223372036854775808

set_option maxHeartbeats 4000000 in
set_option maxRecDepth 100000 in
theorem metX2_core {l : Launch} {S0 : State} {D : va_G} {dA : Nat → ClassId} (hB : tf_B S0 D dA) {sz : Nat} {G : tf_Pic} {mm : Nat} {ad : Nat → Nat} {iv : Nat → Int32} {ar : Nat → Nat → Int32} {fr : Nat → Int64} (hm : mo_W dA mm ad iv ar fr G) {nT nh nc nd ne nk : Nat} {hT kf kh : Nat → Nat} (hI : mo_I iv ar nT nh nc nd ne nk hT kf kh) (e0 what : Int32) : Met l yX2_core (ws_ yX2_core cX2_core 7 (some .long)) (tf_rm 3 0 0) (tf_Pc S0 D sz G [.ref mm, .int e0, .int what]) (tf_Ql S0 D sz G (fun r G1 => r = pm_core ar hT kf kh ne e0 what ∧ G1 = G)) 0 0 (tf_A G sz) := by
  refine Met.ofW (cc := cX2_core) (maxL := 7) (ret := (some .long)) (by decide) rfl ?_
  intro p e s m args below meth c s₁ B hml hv
  obtain ⟨C, hw, hr, hlk, hin, hargs⟩ := tf_enter hB B hml hv
  subst hargs
  have C : tf_C p s m ([.ref mm, .int e0, .int what] : List Value).toArray c cX2_core 7 RX2 S0 D dA := C
  have hx := C.hx
  have hb := C.hb
  change W p l e (tf_rm 3 0 0) s m ([.ref mm, .int e0, .int what] : List Value).toArray below meth c s.heap [] 0 0 (MQ below (tf_Ql S0 D sz G (fun r G1 => r = pm_core ar hT kf kh ne e0 what ∧ G1 = G)) ([.ref mm, .int e0, .int what] : List Value).toArray s 0 0 (tf_A G sz)) (entryFrame m ([.ref mm, .int e0, .int what] : List Value).toArray 7)
  have hI0 := hI
  obtain ⟨hk2, hnT, hk5, hnh, h6, hk10, hnc, hk14, hnd, hk30, hne, hk31, hnk, h32, hkf0, hkfn, hkfs, h33⟩ := hI
  refine tf_start [.ref mm, .int e0, .int what] (Nat.le_of_ble_eq_true rfl) (fun ls hl => ?_)
  have hl : lv_has ls 7 [(0, .ref mm), (1, .int e0), (2, .int what)] := hl
  refine lv_aload_n hx hb dX2_core_0 rfl (lv_at hl 0 rfl) ?_
  refine lv_iload_n hx hb dX2_core_1 rfl (lv_at hl 1 rfl) ?_
  refine tf_goi (tf_V (n := 1) C hw hm.1 rfl [.int e0] (metX2_isEvent hB hm e0) (lw_V q1168 q1170 qs35 q45 q1171) rfl ⟨by decide, by decide, by decide +kernel⟩ ⟨rfl, rfl, Nat.le_of_ble_eq_true rfl, Nat.le_of_ble_eq_true rfl, (by first | exact Nat.le_of_ble_eq_true rfl | (show _ ≤ 0; omega)), (by first | exact Nat.le_of_ble_eq_true rfl | (show _ ≤ 0; omega))⟩ rfl hl rfl (Nat.le_of_ble_eq_true rfl) dX2_core_2) hw (fun r1 G1 H locs hp1 hw => ?_)
  obtain ⟨hre, hGe⟩ := hp1
  have hre : r1 = pt_b (pm_of e0 (iv 30)) := hre
  obtain rfl := hre.symm
  obtain rfl := hGe.symm
  refine lv_if_eq (tgt := 17) hx hb dX2_core_5 (by decide) (fun c5 => ?_) (fun c5 => ?_)
  · replace c5 := pt_b0 c5
    refine lv_ldc2 (v := (-9223372036854775808)) hx hb C.hown (C.hts _ q1124) dX2_core_17 ?_
    refine tf_retl C hw hr hlk dX2_core_20 (by first | exact Nat.le_of_ble_eq_true rfl | omega) (by first | exact Nat.le_of_ble_eq_true rfl | omega) ?_
    refine ⟨?_, rfl⟩
    rw [hk30] at c5
    simp [pm_core, c5]
  · replace c5 := pt_b1 c5
    refine lv_iload_n hx hb dX2_core_8 rfl (lv_at hl 2 rfl) ?_
    refine lv_iconst (v := 0) hx hb dX2_core_9 (by decide) ?_
    refine lv_iconst (v := 2) hx hb dX2_core_10 (by decide) ?_
    refine tf_goi (tf_S (n := 3) C hw [.int what, .int 0, .int 2] (metX2_within hB what 0 2) (lw_S q1052 q1053 q45 q1054) ⟨by decide, by decide, by decide +kernel⟩ ⟨rfl, rfl, Nat.le_of_ble_eq_true rfl, Nat.le_of_ble_eq_true rfl, (by first | exact Nat.le_of_ble_eq_true rfl | (show _ ≤ 0; omega)), (by first | exact Nat.le_of_ble_eq_true rfl | (show _ ≤ 0; omega))⟩ rfl hl rfl (Nat.le_of_ble_eq_true rfl) dX2_core_11) hw (fun r2 G2 H locs hp2 hw => ?_)
    obtain ⟨hre, hGe⟩ := hp2
    have hre : r2 = pt_b (pm_in what 0 2) := hre
    obtain rfl := hre.symm
    obtain rfl := hGe.symm
    refine lv_if_ne (tgt := 21) hx hb dX2_core_14 (by decide) (fun c14 => ?_) (fun c14 => ?_)
    · replace c14 := pt_b1 c14
      have c_e := c5
      rw [hk30] at c_e
      obtain ⟨E, hE, hEe, hEc⟩ := pm_clof (by omega) c_e
      rw [hEe] at hl
      have hE1 := hkfs E hE
      have hE2 := mo_le hkfs (e := E + 1) hE
      refine lv_lconst (v := 0) hx hb dX2_core_21 (by decide) ?_
      refine lv_lstore_n (lv' := [(3, .long 0), (0, .ref mm), (1, .int (nI E)), (2, .int what)]) hx hb dX2_core_22 rfl hl (by decide) rfl (fun ls hl => ?_)
      refine lv_aload_n hx hb dX2_core_23 rfl (lv_at hl 1 rfl) ?_
      refine gf_X2_76 C hw hm.1 (v := .ref (ad 32)) rfl dX2_core_24 ?_
      refine lv_iload_n hx hb dX2_core_27 rfl (lv_at hl 2 rfl) ?_
      refine mo_ald (v := nI (kf E)) C hw hm 32 (by decide) (by decide) E rfl (show E < 241 by omega) (h32 E (by omega)) dX2_core_28 ?_
      refine lv_istore (lv' := [(5, .int (nI (kf E))), (3, .long 0), (0, .ref mm), (1, .int (nI E)), (2, .int what)]) hx hb dX2_core_29 hl (by decide) rfl (fun ls hl => ?_)
      have b31 : ∀ (fuel : Nat) (j : Nat), kf (E + 1) - kf E - j < fuel → (kf E + j ≤ kf (E + 1)) → ∀ (H : Heap) (locs : List Loc), tf_Wd S0 D (tf_A G sz) s.heap G H locs → ∀ (ls : Array Slot), lv_has ls 7 [(5, .int (nI (kf E + j))), (3, .long (pm_sum (fun j => (pm_amt ar (kh (kf E + j))).toInt64 * (pm_wt ar hT what (kh (kf E + j))).toInt64) j)), (0, .ref mm), (1, .int (nI E)), (2, .int what)] → W p l e (tf_rm 3 0 0) s m ([.ref mm, .int e0, .int what] : List Value).toArray below meth c H locs 0 0 (MQ below (tf_Ql S0 D sz G (fun r G1 => r = pm_core ar hT kf kh ne e0 what ∧ G1 = G)) ([.ref mm, .int e0, .int what] : List Value).toArray s 0 0 (tf_A G sz)) (F0 m 31 ls []) := by
        intro fuel31
        induction fuel31 with
        | zero => intro j hfu31; exact absurd hfu31 (Nat.not_lt_zero _)
        | succ fuel31 ih31 =>
          intro j hfu31 hj H locs hw ls hl
          refine lv_iload hx hb dX2_core_31 (lv_at hl 0 rfl) ?_
          refine lv_aload_n hx hb dX2_core_33 rfl (lv_at hl 2 rfl) ?_
          refine gf_X2_76 C hw hm.1 (v := .ref (ad 32)) rfl dX2_core_34 ?_
          refine lv_iload_n hx hb dX2_core_37 rfl (lv_at hl 3 rfl) ?_
          refine lv_iconst (v := 1) hx hb dX2_core_38 (by decide) ?_
          refine tf_iaddN hx hb E 1 rfl rfl dX2_core_39 ?_
          refine mo_ald (v := nI (kf (E + 1))) C hw hm 32 (by decide) (by decide) (E + 1) rfl (show E + 1 < 241 by omega) (h32 (E + 1) (by omega)) dX2_core_40 ?_
          refine tf_icmp_geN hx hb (kf E + j) (kf (E + 1)) rfl rfl (tgt := 111) dX2_core_41 (by decide) (by omega) (by omega) (fun c41 => ?_) (fun c41 => ?_)
          · refine lv_lload_n hx hb dX2_core_111 rfl (lv_at hl 1 rfl) ?_
            refine tf_retl C hw hr hlk dX2_core_112 (by first | exact Nat.le_of_ble_eq_true rfl | omega) (by first | exact Nat.le_of_ble_eq_true rfl | omega) ?_
            refine ⟨?_, rfl⟩
            simp only [pm_core, c_e, c14, Bool.and_self, if_true, hEc]
            rw [show kf (E + 1) - kf E = j by omega]
          · have h33j := h33 (kf E + j) (by omega)
            have h6j := h6 (kh (kf E + j)) h33j.2
            refine lv_aload_n hx hb dX2_core_44 rfl (lv_at hl 2 rfl) ?_
            refine gf_X2_79 C hw hm.1 (v := .ref (ad 33)) rfl dX2_core_45 ?_
            refine lv_iload hx hb dX2_core_48 (lv_at hl 0 rfl) ?_
            refine mo_ald (v := nI (kh (kf E + j))) C hw hm 33 (by decide) (by decide) (kf E + j) rfl (show kf E + j < 240 by omega) (h33 (kf E + j) (by omega)).1 dX2_core_50 ?_
            refine lv_istore (lv' := [(6, .int (nI (kh (kf E + j)))), (5, .int (nI (kf E + j))), (3, .long (pm_sum (fun j => (pm_amt ar (kh (kf E + j))).toInt64 * (pm_wt ar hT what (kh (kf E + j))).toInt64) j)), (0, .ref mm), (1, .int (nI E)), (2, .int what)]) hx hb dX2_core_51 hl (by decide) rfl (fun ls hl => ?_)
            refine lv_lload_n hx hb dX2_core_53 rfl (lv_at hl 2 rfl) ?_
            refine lv_aload_n hx hb dX2_core_54 rfl (lv_at hl 3 rfl) ?_
            refine lv_iload hx hb dX2_core_55 (lv_at hl 0 rfl) ?_
            refine tf_goi (tf_V (n := 1) C hw hm.1 rfl [.int (nI (kh (kf E + j)))] (metX2_amountOf hB hm (h := kh (kf E + j)) (by omega)) (lw_V q1116 q1118 qs28 q45 q1119) rfl ⟨by decide, by decide, by decide +kernel⟩ ⟨rfl, rfl, Nat.le_of_ble_eq_true rfl, Nat.le_of_ble_eq_true rfl, (by first | exact Nat.le_of_ble_eq_true rfl | (show _ ≤ 0; omega)), (by first | exact Nat.le_of_ble_eq_true rfl | (show _ ≤ 0; omega))⟩ rfl hl rfl (Nat.le_of_ble_eq_true rfl) dX2_core_57) hw (fun r3 G3 H locs hp3 hw => ?_)
            obtain ⟨hre, hGe⟩ := hp3
            have hre : r3 = pm_amt ar (kh (kf E + j)) := hre
            obtain rfl := hre.symm
            obtain rfl := hGe.symm
            refine lv_i2l hx hb dX2_core_60 rfl ?_
            refine lv_iload_n hx hb dX2_core_61 rfl (lv_at hl 5 rfl) ?_
            refine lv_if_ne (tgt := 80) hx hb dX2_core_62 (by decide) (fun c62 => ?_) (fun c62 => ?_)
            · refine lv_iload_n hx hb dX2_core_80 rfl (lv_at hl 5 rfl) ?_
              refine lv_iconst (v := 1) hx hb dX2_core_81 (by decide) ?_
              refine lv_icmp_ne (tgt := 100) hx hb dX2_core_82 (by decide) (fun c82 => ?_) (fun c82 => ?_)
              · refine lv_iconst (v := 1) hx hb dX2_core_100 (by decide) ?_
                refine lv_i2l hx hb dX2_core_101 rfl ?_
                refine lv_lmul hx hb dX2_core_102 ?_
                refine lv_ladd hx hb dX2_core_103 ?_
                refine lv_lstore_n (lv' := [(3, .long ((pm_sum (fun j => (pm_amt ar (kh (kf E + j))).toInt64 * (pm_wt ar hT what (kh (kf E + j))).toInt64) j) + (((pm_amt ar (kh (kf E + j))).toInt64) * ((1 : Int32).toInt64)))), (6, .int (nI (kh (kf E + j)))), (5, .int (nI (kf E + j))), (0, .ref mm), (1, .int (nI E)), (2, .int what)]) hx hb dX2_core_104 rfl hl (by decide) rfl (fun ls hl => ?_)
                have hwt : pm_wt ar hT what (kh (kf E + j)) = 1 := by simp only [pm_wt, if_neg c62, if_neg c82]
                have hsu : ((pm_sum (fun j => (pm_amt ar (kh (kf E + j))).toInt64 * (pm_wt ar hT what (kh (kf E + j))).toInt64) j) + (((pm_amt ar (kh (kf E + j))).toInt64) * ((1 : Int32).toInt64)) : Int64) = pm_sum (fun j => (pm_amt ar (kh (kf E + j))).toInt64 * (pm_wt ar hT what (kh (kf E + j))).toInt64) (j + 1) := by
                  show _ = pm_sum (fun j => (pm_amt ar (kh (kf E + j))).toInt64 * (pm_wt ar hT what (kh (kf E + j))).toInt64) j + (pm_amt ar (kh (kf E + j))).toInt64 * (pm_wt ar hT what (kh (kf E + j))).toInt64
                  rw [hwt]
                rw [hsu] at hl
                refine lv_iinc (v := nI (kf E + j + 1)) (lv' := [(5, .int (nI (kf E + j + 1))), (3, .long (pm_sum (fun j => (pm_amt ar (kh (kf E + j))).toInt64 * (pm_wt ar hT what (kh (kf E + j))).toInt64) (j + 1))), (6, .int (nI (kh (kf E + j)))), (0, .ref mm), (1, .int (nI E)), (2, .int what)]) hx hb dX2_core_105 hl (k := 2) rfl (nI_1 _) (by decide) rfl (fun ls hl => ?_)
                refine lv_goto (tgt := 31) hx hb dX2_core_108 (by decide) ?_
                exact ih31 (j + 1) (by omega) (by omega) _ _ hw ls (lv_sub hl [0, 1, 3, 4, 5] rfl)
              · refine lv_aload_n hx hb dX2_core_85 rfl (lv_at hl 3 rfl) ?_
                refine gf_X2_13 C hw hm.1 (v := .ref (ad 4)) rfl dX2_core_86 ?_
                refine lv_aload_n hx hb dX2_core_89 rfl (lv_at hl 3 rfl) ?_
                refine gf_X2_16 C hw hm.1 (v := .ref (ad 6)) rfl dX2_core_90 ?_
                refine lv_iload hx hb dX2_core_93 (lv_at hl 0 rfl) ?_
                refine mo_ald (v := nI (hT (kh (kf E + j)))) C hw hm 6 (by decide) (by decide) (kh (kf E + j)) rfl (show kh (kf E + j) < 240 by omega) (h6 (kh (kf E + j)) (by omega)).1 dX2_core_95 ?_
                refine mo_ald (v := ar 4 (hT (kh (kf E + j)))) C hw hm 4 (by decide) (by decide) (hT (kh (kf E + j))) rfl (show hT (kh (kf E + j)) < 30 by omega) rfl dX2_core_96 ?_
                refine lv_goto (tgt := 101) hx hb dX2_core_97 (by decide) ?_
                refine lv_i2l hx hb dX2_core_101 rfl ?_
                refine lv_lmul hx hb dX2_core_102 ?_
                refine lv_ladd hx hb dX2_core_103 ?_
                refine lv_lstore_n (lv' := [(3, .long ((pm_sum (fun j => (pm_amt ar (kh (kf E + j))).toInt64 * (pm_wt ar hT what (kh (kf E + j))).toInt64) j) + (((pm_amt ar (kh (kf E + j))).toInt64) * ((ar 4 (hT (kh (kf E + j)))).toInt64)))), (6, .int (nI (kh (kf E + j)))), (5, .int (nI (kf E + j))), (0, .ref mm), (1, .int (nI E)), (2, .int what)]) hx hb dX2_core_104 rfl hl (by decide) rfl (fun ls hl => ?_)
                have hwt : pm_wt ar hT what (kh (kf E + j)) = ar 4 (hT (kh (kf E + j))) := by simp only [pm_wt, if_neg c62, if_pos c82]
                have hsu : ((pm_sum (fun j => (pm_amt ar (kh (kf E + j))).toInt64 * (pm_wt ar hT what (kh (kf E + j))).toInt64) j) + (((pm_amt ar (kh (kf E + j))).toInt64) * ((ar 4 (hT (kh (kf E + j)))).toInt64)) : Int64) = pm_sum (fun j => (pm_amt ar (kh (kf E + j))).toInt64 * (pm_wt ar hT what (kh (kf E + j))).toInt64) (j + 1) := by
                  show _ = pm_sum (fun j => (pm_amt ar (kh (kf E + j))).toInt64 * (pm_wt ar hT what (kh (kf E + j))).toInt64) j + (pm_amt ar (kh (kf E + j))).toInt64 * (pm_wt ar hT what (kh (kf E + j))).toInt64
                  rw [hwt]
                rw [hsu] at hl
                refine lv_iinc (v := nI (kf E + j + 1)) (lv' := [(5, .int (nI (kf E + j + 1))), (3, .long (pm_sum (fun j => (pm_amt ar (kh (kf E + j))).toInt64 * (pm_wt ar hT what (kh (kf E + j))).toInt64) (j + 1))), (6, .int (nI (kh (kf E + j)))), (0, .ref mm), (1, .int (nI E)), (2, .int what)]) hx hb dX2_core_105 hl (k := 2) rfl (nI_1 _) (by decide) rfl (fun ls hl => ?_)
                refine lv_goto (tgt := 31) hx hb dX2_core_108 (by decide) ?_
                exact ih31 (j + 1) (by omega) (by omega) _ _ hw ls (lv_sub hl [0, 1, 3, 4, 5] rfl)
            · refine lv_aload_n hx hb dX2_core_65 rfl (lv_at hl 3 rfl) ?_
              refine gf_X2_7 C hw hm.1 (v := .ref (ad 3)) rfl dX2_core_66 ?_
              refine lv_aload_n hx hb dX2_core_69 rfl (lv_at hl 3 rfl) ?_
              refine gf_X2_16 C hw hm.1 (v := .ref (ad 6)) rfl dX2_core_70 ?_
              refine lv_iload hx hb dX2_core_73 (lv_at hl 0 rfl) ?_
              refine mo_ald (v := nI (hT (kh (kf E + j)))) C hw hm 6 (by decide) (by decide) (kh (kf E + j)) rfl (show kh (kf E + j) < 240 by omega) (h6 (kh (kf E + j)) (by omega)).1 dX2_core_75 ?_
              refine mo_ald (v := ar 3 (hT (kh (kf E + j)))) C hw hm 3 (by decide) (by decide) (hT (kh (kf E + j))) rfl (show hT (kh (kf E + j)) < 30 by omega) rfl dX2_core_76 ?_
              refine lv_goto (tgt := 101) hx hb dX2_core_77 (by decide) ?_
              refine lv_i2l hx hb dX2_core_101 rfl ?_
              refine lv_lmul hx hb dX2_core_102 ?_
              refine lv_ladd hx hb dX2_core_103 ?_
              refine lv_lstore_n (lv' := [(3, .long ((pm_sum (fun j => (pm_amt ar (kh (kf E + j))).toInt64 * (pm_wt ar hT what (kh (kf E + j))).toInt64) j) + (((pm_amt ar (kh (kf E + j))).toInt64) * ((ar 3 (hT (kh (kf E + j)))).toInt64)))), (6, .int (nI (kh (kf E + j)))), (5, .int (nI (kf E + j))), (0, .ref mm), (1, .int (nI E)), (2, .int what)]) hx hb dX2_core_104 rfl hl (by decide) rfl (fun ls hl => ?_)
              have hwt : pm_wt ar hT what (kh (kf E + j)) = ar 3 (hT (kh (kf E + j))) := by simp only [pm_wt, if_pos c62]
              have hsu : ((pm_sum (fun j => (pm_amt ar (kh (kf E + j))).toInt64 * (pm_wt ar hT what (kh (kf E + j))).toInt64) j) + (((pm_amt ar (kh (kf E + j))).toInt64) * ((ar 3 (hT (kh (kf E + j)))).toInt64)) : Int64) = pm_sum (fun j => (pm_amt ar (kh (kf E + j))).toInt64 * (pm_wt ar hT what (kh (kf E + j))).toInt64) (j + 1) := by
                show _ = pm_sum (fun j => (pm_amt ar (kh (kf E + j))).toInt64 * (pm_wt ar hT what (kh (kf E + j))).toInt64) j + (pm_amt ar (kh (kf E + j))).toInt64 * (pm_wt ar hT what (kh (kf E + j))).toInt64
                rw [hwt]
              rw [hsu] at hl
              refine lv_iinc (v := nI (kf E + j + 1)) (lv' := [(5, .int (nI (kf E + j + 1))), (3, .long (pm_sum (fun j => (pm_amt ar (kh (kf E + j))).toInt64 * (pm_wt ar hT what (kh (kf E + j))).toInt64) (j + 1))), (6, .int (nI (kh (kf E + j)))), (0, .ref mm), (1, .int (nI E)), (2, .int what)]) hx hb dX2_core_105 hl (k := 2) rfl (nI_1 _) (by decide) rfl (fun ls hl => ?_)
              refine lv_goto (tgt := 31) hx hb dX2_core_108 (by decide) ?_
              exact ih31 (j + 1) (by omega) (by omega) _ _ hw ls (lv_sub hl [0, 1, 3, 4, 5] rfl)
      exact b31 (kf (E + 1) - kf E + 1) 0 (by omega) (by omega) _ _ hw ls hl
    · replace c14 := pt_b0 c14
      refine lv_ldc2 (v := (-9223372036854775808)) hx hb C.hown (C.hts _ q1124) dX2_core_17 ?_
      refine tf_retl C hw hr hlk dX2_core_20 (by first | exact Nat.le_of_ble_eq_true rfl | omega) (by first | exact Nat.le_of_ble_eq_true rfl | omega) ?_
      refine ⟨?_, rfl⟩
      rw [hk30] at c5
      simp [pm_core, c5, c14]

/-- what was built before: no events, of: where they begin -/
def mo_O (iv : Nat → Int32) (ar : Nat → Nat → Int32) (no : Nat) (of : Nat → Nat) : Prop := iv 36 = nI no ∧ no ≤ 240 ∧ (∀ o, o ≤ no → ar 37 o = nI (of o)) ∧ (∀ o, o < no → of o < of (o + 1)) ∧ of no ≤ 240
/-- the first k of old members from a, kept ones from b are alike -/
def pm_sameL (ar : Nat → Nat → Int32) (a b : Nat) : Nat → Bool
  | 0 => true
  | k + 1 => pm_sameL ar a b k && decide (ar 38 (a + k) = ar 33 (b + k))
theorem pm_same_f (ar : Nat → Nat → Int32) (a b : Nat) : ∀ d k, pm_sameL ar a b k = false → pm_sameL ar a b (k + d) = false := by
  intro d
  induction d with
  | zero => intro k h; exact h
  | succ d ih => intro k h; show (pm_sameL ar a b (k + d) && _) = false; rw [ih k h]; rfl
/-- the old event o is like the kept members from b on, m of them -/
def pm_like (ar : Nat → Nat → Int32) (of : Nat → Nat) (b m o : Nat) : Bool := decide (of (o + 1) - of o = m) && pm_sameL ar (of o) b m
def pm_newL (ar : Nat → Nat → Int32) (of : Nat → Nat) (b m : Nat) : Nat → Bool
  | 0 => true
  | o + 1 => pm_newL ar of b m o && !pm_like ar of b m o
theorem pm_new_f (ar : Nat → Nat → Int32) (of : Nat → Nat) (b m : Nat) : ∀ d k, pm_newL ar of b m k = false → pm_newL ar of b m (k + d) = false := by
  intro d
  induction d with
  | zero => intro k h; exact h
  | succ d ih => intro k h; show (pm_newL ar of b m (k + d) && _) = false; rw [ih k h]; rfl

set_option maxHeartbeats 4000000 in
set_option maxRecDepth 100000 in
theorem metX2_isNew {l : Launch} {S0 : State} {D : va_G} {dA : Nat → ClassId} (hB : tf_B S0 D dA) {sz : Nat} {G : tf_Pic} {mm : Nat} {ad : Nat → Nat} {iv : Nat → Int32} {ar : Nat → Nat → Int32} {fr : Nat → Int64} (hm : mo_W dA mm ad iv ar fr G) {nT nh nc nd ne nk : Nat} {hT kf kh : Nat → Nat} (hI : mo_I iv ar nT nh nc nd ne nk hT kf kh) {no : Nat} {of : Nat → Nat} (hO : mo_O iv ar no of) {E : Nat} (hE : E < ne) : Met l yX2_isNew (ws_ yX2_isNew cX2_isNew 6 (some .boolean)) (tf_rm 1 0 0) (tf_Pc S0 D sz G [.ref mm, .int (nI E)]) (tf_Qi S0 D sz G (fun r G1 => r = pt_b (pm_newL ar of (kf E) (kf (E + 1) - kf E) no) ∧ G1 = G)) 0 0 (tf_A G sz) := by
  refine Met.ofW (cc := cX2_isNew) (maxL := 6) (ret := (some .boolean)) (by decide) rfl ?_
  intro p e s m args below meth c s₁ B hml hv
  obtain ⟨C, hw, hr, hlk, hin, hargs⟩ := tf_enter hB B hml hv
  subst hargs
  have C : tf_C p s m ([.ref mm, .int (nI E)] : List Value).toArray c cX2_isNew 6 RX2 S0 D dA := C
  have hx := C.hx
  have hb := C.hb
  change W p l e (tf_rm 1 0 0) s m ([.ref mm, .int (nI E)] : List Value).toArray below meth c s.heap [] 0 0 (MQ below (tf_Qi S0 D sz G (fun r G1 => r = pt_b (pm_newL ar of (kf E) (kf (E + 1) - kf E) no) ∧ G1 = G)) ([.ref mm, .int (nI E)] : List Value).toArray s 0 0 (tf_A G sz)) (entryFrame m ([.ref mm, .int (nI E)] : List Value).toArray 6)
  have hI0 := hI
  obtain ⟨hk2, hnT, hk5, hnh, h6, hk10, hnc, hk14, hnd, hk30, hne, hk31, hnk, h32, hkf0, hkfn, hkfs, h33⟩ := hI
  have hE1 := hkfs E hE
  have hE2 := mo_le hkfs (e := E + 1) hE
  have hO0 := hO
  obtain ⟨hk36, hno, h37, hofs, hofn⟩ := hO
  refine tf_start [.ref mm, .int (nI E)] (Nat.le_of_ble_eq_true rfl) (fun ls hl => ?_)
  have hl : lv_has ls 6 [(0, .ref mm), (1, .int (nI E))] := hl
  refine lv_aload_n hx hb dX2_isNew_0 rfl (lv_at hl 0 rfl) ?_
  refine gf_X2_76 C hw hm.1 (v := .ref (ad 32)) rfl dX2_isNew_1 ?_
  refine lv_iload_n hx hb dX2_isNew_4 rfl (lv_at hl 1 rfl) ?_
  refine lv_iconst (v := 1) hx hb dX2_isNew_5 (by decide) ?_
  refine tf_iaddN hx hb E 1 rfl rfl dX2_isNew_6 ?_
  refine mo_ald (v := nI (kf (E + 1))) C hw hm 32 (by decide) (by decide) (E + 1) rfl (show E + 1 < 241 by omega) (h32 (E + 1) (by omega)) dX2_isNew_7 ?_
  refine lv_aload_n hx hb dX2_isNew_8 rfl (lv_at hl 0 rfl) ?_
  refine gf_X2_76 C hw hm.1 (v := .ref (ad 32)) rfl dX2_isNew_9 ?_
  refine lv_iload_n hx hb dX2_isNew_12 rfl (lv_at hl 1 rfl) ?_
  refine mo_ald (v := nI (kf E)) C hw hm 32 (by decide) (by decide) E rfl (show E < 241 by omega) (h32 E (by omega)) dX2_isNew_13 ?_
  refine tf_isubN hx hb (kf (E + 1)) (kf E) rfl rfl (by omega) dX2_isNew_14 ?_
  refine lv_istore_n (lv' := [(2, .int (nI ((kf (E + 1)) - (kf E)))), (0, .ref mm), (1, .int (nI E))]) hx hb dX2_isNew_15 rfl hl (by decide) rfl (fun ls hl => ?_)
  refine lv_iconst (v := 0) hx hb dX2_isNew_16 (by decide) ?_
  refine lv_istore_n (lv' := [(3, .int 0), (2, .int (nI ((kf (E + 1)) - (kf E)))), (0, .ref mm), (1, .int (nI E))]) hx hb dX2_isNew_17 rfl hl (by decide) rfl (fun ls hl => ?_)
  have b18 : ∀ (fuel : Nat) (o : Nat), no - o < fuel → (o ≤ no) → (pm_newL ar of (kf E) (kf (E + 1) - kf E) o = true) → ∀ (H : Heap) (locs : List Loc), tf_Wd S0 D (tf_A G sz) s.heap G H locs → ∀ (ls : Array Slot), lv_has ls 6 [(3, .int (nI o)), (2, .int (nI (kf (E + 1) - kf E))), (0, .ref mm), (1, .int (nI E))] → W p l e (tf_rm 1 0 0) s m ([.ref mm, .int (nI E)] : List Value).toArray below meth c H locs 0 0 (MQ below (tf_Qi S0 D sz G (fun r G1 => r = pt_b (pm_newL ar of (kf E) (kf (E + 1) - kf E) no) ∧ G1 = G)) ([.ref mm, .int (nI E)] : List Value).toArray s 0 0 (tf_A G sz)) (F0 m 18 ls []) := by
    intro fuel18
    induction fuel18 with
    | zero => intro o hfu18; exact absurd hfu18 (Nat.not_lt_zero _)
    | succ fuel18 ih18 =>
      intro o hfu18 ho hnew H locs hw ls hl
      refine lv_iload_n hx hb dX2_isNew_18 rfl (lv_at hl 0 rfl) ?_
      refine lv_aload_n hx hb dX2_isNew_19 rfl (lv_at hl 2 rfl) ?_
      refine gf_X2_183 C hw hm.1 (v := .int (nI no)) (by rw [← hk36]; rfl) dX2_isNew_20 ?_
      refine tf_icmp_geN hx hb o no rfl rfl (tgt := 123) dX2_isNew_23 (by decide) (by omega) (by omega) (fun c23 => ?_) (fun c23 => ?_)
      · refine lv_iconst (v := 1) hx hb dX2_isNew_123 (by decide) ?_
        exact tf_retz C hw hr hlk dX2_isNew_124 (by first | exact Nat.le_of_ble_eq_true rfl | omega) (by first | exact Nat.le_of_ble_eq_true rfl | omega) (Or.inr rfl) (by refine ⟨?_, rfl⟩; rw [show no = o by omega, hnew]; rfl)
      · have ho1 := hofs o (by omega)
        have ho2 := mo_le hofs (e := o + 1) (by omega)
        refine lv_aload_n hx hb dX2_isNew_26 rfl (lv_at hl 2 rfl) ?_
        refine gf_X2_88 C hw hm.1 (v := .ref (ad 37)) rfl dX2_isNew_27 ?_
        refine lv_iload_n hx hb dX2_isNew_30 rfl (lv_at hl 0 rfl) ?_
        refine lv_iconst (v := 1) hx hb dX2_isNew_31 (by decide) ?_
        refine tf_iaddN hx hb o 1 rfl rfl dX2_isNew_32 ?_
        refine mo_ald (v := nI (of (o + 1))) C hw hm 37 (by decide) (by decide) (o + 1) rfl (show o + 1 < 241 by omega) (h37 (o + 1) (by omega)) dX2_isNew_33 ?_
        refine lv_aload_n hx hb dX2_isNew_34 rfl (lv_at hl 2 rfl) ?_
        refine gf_X2_88 C hw hm.1 (v := .ref (ad 37)) rfl dX2_isNew_35 ?_
        refine lv_iload_n hx hb dX2_isNew_38 rfl (lv_at hl 0 rfl) ?_
        refine mo_ald (v := nI (of o)) C hw hm 37 (by decide) (by decide) o rfl (show o < 241 by omega) (h37 o (by omega)) dX2_isNew_39 ?_
        refine tf_isubN hx hb (of (o + 1)) (of o) rfl rfl (by omega) dX2_isNew_40 ?_
        refine lv_iload_n hx hb dX2_isNew_41 rfl (lv_at hl 1 rfl) ?_
        refine tf_icmp_neN hx hb ((of (o + 1)) - (of o)) (kf (E + 1) - kf E) rfl rfl (tgt := 49) dX2_isNew_42 (by decide) (by omega) (by omega) (fun c42 => ?_) (fun c42 => ?_)
        · refine lv_iconst (v := 0) hx hb dX2_isNew_49 (by decide) ?_
          refine lv_istore (lv' := [(4, .int 0), (3, .int (nI o)), (2, .int (nI (kf (E + 1) - kf E))), (0, .ref mm), (1, .int (nI E))]) hx hb dX2_isNew_50 hl (by decide) rfl (fun ls hl => ?_)
          rw [show (0 : Int32) = pt_b (decide (of (o + 1) - of o = kf (E + 1) - kf E) && pm_sameL ar (of o) (kf E) 0) by rw [decide_eq_false c42]; rfl] at hl
          refine lv_iconst (v := 0) hx hb dX2_isNew_52 (by decide) ?_
          refine lv_istore (lv' := [(5, .int 0), (4, .int (pt_b (decide (of (o + 1) - of o = kf (E + 1) - kf E) && pm_sameL ar (of o) (kf E) 0))), (3, .int (nI o)), (2, .int (nI (kf (E + 1) - kf E))), (0, .ref mm), (1, .int (nI E))]) hx hb dX2_isNew_53 hl (by decide) rfl (fun ls hl => ?_)
          have b55 : ∀ (fuel : Nat) (k : Nat), kf (E + 1) - kf E - k < fuel → (k ≤ kf (E + 1) - kf E) → ∀ (H : Heap) (locs : List Loc), tf_Wd S0 D (tf_A G sz) s.heap G H locs → ∀ (ls : Array Slot), lv_has ls 6 [(5, .int (nI k)), (4, .int (pt_b (decide (of (o + 1) - of o = kf (E + 1) - kf E) && pm_sameL ar (of o) (kf E) k))), (3, .int (nI o)), (2, .int (nI (kf (E + 1) - kf E))), (0, .ref mm), (1, .int (nI E))] → W p l e (tf_rm 1 0 0) s m ([.ref mm, .int (nI E)] : List Value).toArray below meth c H locs 0 0 (MQ below (tf_Qi S0 D sz G (fun r G1 => r = pt_b (pm_newL ar of (kf E) (kf (E + 1) - kf E) no) ∧ G1 = G)) ([.ref mm, .int (nI E)] : List Value).toArray s 0 0 (tf_A G sz)) (F0 m 55 ls []) := by
            intro fuel55
            induction fuel55 with
            | zero => intro k hfu55; exact absurd hfu55 (Nat.not_lt_zero _)
            | succ fuel55 ih55 =>
              intro k hfu55 hk H locs hw ls hl
              refine lv_iload hx hb dX2_isNew_55 (lv_at hl 0 rfl) ?_
              refine lv_iload_n hx hb dX2_isNew_57 rfl (lv_at hl 3 rfl) ?_
              refine tf_icmp_geN hx hb k (kf (E + 1) - kf E) rfl rfl (tgt := 110) dX2_isNew_58 (by decide) (by omega) (by omega) (fun c58 => ?_) (fun c58 => ?_)
              · have hlke : pm_like ar of (kf E) (kf (E + 1) - kf E) o = (decide (of (o + 1) - of o = kf (E + 1) - kf E) && pm_sameL ar (of o) (kf E) k) := by rw [show k = kf (E + 1) - kf E by omega]; rfl
                refine lv_iload hx hb dX2_isNew_110 (lv_at hl 1 rfl) ?_
                refine lv_if_eq (tgt := 117) hx hb dX2_isNew_112 (by decide) (fun c112 => ?_) (fun c112 => ?_)
                · replace c112 := pt_b0 c112
                  refine lv_iinc (v := nI (o + 1)) (lv' := [(3, .int (nI (o + 1))), (5, .int (nI k)), (4, .int (pt_b (decide (of (o + 1) - of o = kf (E + 1) - kf E) && pm_sameL ar (of o) (kf E) k))), (2, .int (nI (kf (E + 1) - kf E))), (0, .ref mm), (1, .int (nI E))]) hx hb dX2_isNew_117 hl (k := 2) rfl (nI_1 _) (by decide) rfl (fun ls hl => ?_)
                  refine lv_goto (tgt := 18) hx hb dX2_isNew_120 (by decide) ?_
                  exact ih18 (o + 1) (by omega) (by omega) (by show (pm_newL ar of (kf E) (kf (E + 1) - kf E) o && _) = true; rw [hnew, hlke, c112]; rfl) _ _ hw ls (lv_sub hl [0, 3, 4, 5] rfl)
                · replace c112 := pt_b1 c112
                  refine lv_iconst (v := 0) hx hb dX2_isNew_115 (by decide) ?_
                  exact tf_retz C hw hr hlk dX2_isNew_116 (by first | exact Nat.le_of_ble_eq_true rfl | omega) (by first | exact Nat.le_of_ble_eq_true rfl | omega) (Or.inl rfl) (by refine ⟨?_, rfl⟩; have hz := pm_new_f ar of (kf E) (kf (E + 1) - kf E) (no - (o + 1)) (o + 1) (by show (pm_newL ar of (kf E) (kf (E + 1) - kf E) o && _) = false; rw [hlke, c112, Bool.and_comm]; rfl); rw [show o + 1 + (no - (o + 1)) = no by omega] at hz; rw [hz]; rfl)
              · refine lv_iload hx hb dX2_isNew_61 (lv_at hl 1 rfl) ?_
                refine lv_if_eq (tgt := 110) hx hb dX2_isNew_63 (by decide) (fun c63 => ?_) (fun c63 => ?_)
                · replace c63 := pt_b0 c63
                  have hlke : pm_like ar of (kf E) (kf (E + 1) - kf E) o = (decide (of (o + 1) - of o = kf (E + 1) - kf E) && pm_sameL ar (of o) (kf E) k) := by
                    rw [c63]
                    simp only [pm_like]
                    rcases (Bool.and_eq_false_iff.mp c63) with hz | hz
                    · rw [hz]; rfl
                    · have := pm_same_f ar (of o) (kf E) (kf (E + 1) - kf E - k) k hz; rw [show k + (kf (E + 1) - kf E - k) = kf (E + 1) - kf E by omega] at this; rw [this, Bool.and_false]
                  refine lv_iload hx hb dX2_isNew_110 (lv_at hl 1 rfl) ?_
                  refine lv_if_eq (tgt := 117) hx hb dX2_isNew_112 (by decide) (fun c112 => ?_) (fun c112 => ?_)
                  · replace c112 := pt_b0 c112
                    refine lv_iinc (v := nI (o + 1)) (lv' := [(3, .int (nI (o + 1))), (5, .int (nI k)), (4, .int (pt_b (decide (of (o + 1) - of o = kf (E + 1) - kf E) && pm_sameL ar (of o) (kf E) k))), (2, .int (nI (kf (E + 1) - kf E))), (0, .ref mm), (1, .int (nI E))]) hx hb dX2_isNew_117 hl (k := 2) rfl (nI_1 _) (by decide) rfl (fun ls hl => ?_)
                    refine lv_goto (tgt := 18) hx hb dX2_isNew_120 (by decide) ?_
                    exact ih18 (o + 1) (by omega) (by omega) (by show (pm_newL ar of (kf E) (kf (E + 1) - kf E) o && _) = true; rw [hnew, hlke, c112]; rfl) _ _ hw ls (lv_sub hl [0, 3, 4, 5] rfl)
                  · replace c112 := pt_b1 c112
                    refine lv_iconst (v := 0) hx hb dX2_isNew_115 (by decide) ?_
                    exact tf_retz C hw hr hlk dX2_isNew_116 (by first | exact Nat.le_of_ble_eq_true rfl | omega) (by first | exact Nat.le_of_ble_eq_true rfl | omega) (Or.inl rfl) (by refine ⟨?_, rfl⟩; have hz := pm_new_f ar of (kf E) (kf (E + 1) - kf E) (no - (o + 1)) (o + 1) (by show (pm_newL ar of (kf E) (kf (E + 1) - kf E) o && _) = false; rw [hlke, c112, Bool.and_comm]; rfl); rw [show o + 1 + (no - (o + 1)) = no by omega] at hz; rw [hz]; rfl)
                · replace c63 := pt_b1 c63
                  have hdec : of (o + 1) - of o = kf (E + 1) - kf E := by
                    have := (Bool.and_eq_true_iff.mp c63).1
                    exact of_decide_eq_true this
                  refine lv_aload_n hx hb dX2_isNew_66 rfl (lv_at hl 4 rfl) ?_
                  refine gf_X2_91 C hw hm.1 (v := .ref (ad 38)) rfl dX2_isNew_67 ?_
                  refine lv_aload_n hx hb dX2_isNew_70 rfl (lv_at hl 4 rfl) ?_
                  refine gf_X2_88 C hw hm.1 (v := .ref (ad 37)) rfl dX2_isNew_71 ?_
                  refine lv_iload_n hx hb dX2_isNew_74 rfl (lv_at hl 2 rfl) ?_
                  refine mo_ald (v := nI (of o)) C hw hm 37 (by decide) (by decide) o rfl (show o < 241 by omega) (h37 o (by omega)) dX2_isNew_75 ?_
                  refine lv_iload hx hb dX2_isNew_76 (lv_at hl 0 rfl) ?_
                  refine tf_iaddN hx hb (of o) k rfl rfl dX2_isNew_78 ?_
                  refine mo_ald (v := ar 38 ((of o) + k)) C hw hm 38 (by decide) (by decide) ((of o) + k) rfl (show (of o) + k < 240 by omega) rfl dX2_isNew_79 ?_
                  refine lv_aload_n hx hb dX2_isNew_80 rfl (lv_at hl 4 rfl) ?_
                  refine gf_X2_79 C hw hm.1 (v := .ref (ad 33)) rfl dX2_isNew_81 ?_
                  refine lv_aload_n hx hb dX2_isNew_84 rfl (lv_at hl 4 rfl) ?_
                  refine gf_X2_76 C hw hm.1 (v := .ref (ad 32)) rfl dX2_isNew_85 ?_
                  refine lv_iload_n hx hb dX2_isNew_88 rfl (lv_at hl 5 rfl) ?_
                  refine mo_ald (v := nI (kf E)) C hw hm 32 (by decide) (by decide) E rfl (show E < 241 by omega) (h32 E (by omega)) dX2_isNew_89 ?_
                  refine lv_iload hx hb dX2_isNew_90 (lv_at hl 0 rfl) ?_
                  refine tf_iaddN hx hb (kf E) k rfl rfl dX2_isNew_92 ?_
                  refine mo_ald (v := ar 33 ((kf E) + k)) C hw hm 33 (by decide) (by decide) ((kf E) + k) rfl (show (kf E) + k < 240 by omega) rfl dX2_isNew_93 ?_
                  refine lv_icmp_ne (tgt := 101) hx hb dX2_isNew_94 (by decide) (fun c94 => ?_) (fun c94 => ?_)
                  · refine lv_iconst (v := 0) hx hb dX2_isNew_101 (by decide) ?_
                    refine lv_istore (lv' := [(4, .int 0), (5, .int (nI k)), (3, .int (nI o)), (2, .int (nI (kf (E + 1) - kf E))), (0, .ref mm), (1, .int (nI E))]) hx hb dX2_isNew_102 hl (by decide) rfl (fun ls hl => ?_)
                    rw [show (0 : Int32) = pt_b (decide (of (o + 1) - of o = kf (E + 1) - kf E) && pm_sameL ar (of o) (kf E) (k + 1)) by simp only [pm_sameL]; rw [← Bool.and_assoc, c63, decide_eq_false c94]; rfl] at hl
                    refine lv_iinc (v := nI (k + 1)) (lv' := [(5, .int (nI (k + 1))), (4, .int (pt_b (decide (of (o + 1) - of o = kf (E + 1) - kf E) && pm_sameL ar (of o) (kf E) (k + 1)))), (3, .int (nI o)), (2, .int (nI (kf (E + 1) - kf E))), (0, .ref mm), (1, .int (nI E))]) hx hb dX2_isNew_104 hl (k := 1) rfl (nI_1 _) (by decide) rfl (fun ls hl => ?_)
                    refine lv_goto (tgt := 55) hx hb dX2_isNew_107 (by decide) ?_
                    exact ih55 (k + 1) (by omega) (by omega) _ _ hw ls hl
                  · refine lv_iconst (v := 1) hx hb dX2_isNew_97 (by decide) ?_
                    refine lv_goto (tgt := 102) hx hb dX2_isNew_98 (by decide) ?_
                    refine lv_istore (lv' := [(4, .int 1), (5, .int (nI k)), (3, .int (nI o)), (2, .int (nI (kf (E + 1) - kf E))), (0, .ref mm), (1, .int (nI E))]) hx hb dX2_isNew_102 hl (by decide) rfl (fun ls hl => ?_)
                    rw [show (1 : Int32) = pt_b (decide (of (o + 1) - of o = kf (E + 1) - kf E) && pm_sameL ar (of o) (kf E) (k + 1)) by simp only [pm_sameL]; rw [← Bool.and_assoc, c63, decide_eq_true c94]; rfl] at hl
                    refine lv_iinc (v := nI (k + 1)) (lv' := [(5, .int (nI (k + 1))), (4, .int (pt_b (decide (of (o + 1) - of o = kf (E + 1) - kf E) && pm_sameL ar (of o) (kf E) (k + 1)))), (3, .int (nI o)), (2, .int (nI (kf (E + 1) - kf E))), (0, .ref mm), (1, .int (nI E))]) hx hb dX2_isNew_104 hl (k := 1) rfl (nI_1 _) (by decide) rfl (fun ls hl => ?_)
                    refine lv_goto (tgt := 55) hx hb dX2_isNew_107 (by decide) ?_
                    exact ih55 (k + 1) (by omega) (by omega) _ _ hw ls hl
          exact b55 (kf (E + 1) - kf E + 1) 0 (by omega) (by omega) _ _ hw ls hl
        · refine lv_iconst (v := 1) hx hb dX2_isNew_45 (by decide) ?_
          refine lv_goto (tgt := 50) hx hb dX2_isNew_46 (by decide) ?_
          refine lv_istore (lv' := [(4, .int 1), (3, .int (nI o)), (2, .int (nI (kf (E + 1) - kf E))), (0, .ref mm), (1, .int (nI E))]) hx hb dX2_isNew_50 hl (by decide) rfl (fun ls hl => ?_)
          rw [show (1 : Int32) = pt_b (decide (of (o + 1) - of o = kf (E + 1) - kf E) && pm_sameL ar (of o) (kf E) 0) by rw [decide_eq_true c42]; rfl] at hl
          refine lv_iconst (v := 0) hx hb dX2_isNew_52 (by decide) ?_
          refine lv_istore (lv' := [(5, .int 0), (4, .int (pt_b (decide (of (o + 1) - of o = kf (E + 1) - kf E) && pm_sameL ar (of o) (kf E) 0))), (3, .int (nI o)), (2, .int (nI (kf (E + 1) - kf E))), (0, .ref mm), (1, .int (nI E))]) hx hb dX2_isNew_53 hl (by decide) rfl (fun ls hl => ?_)
          have b55 : ∀ (fuel : Nat) (k : Nat), kf (E + 1) - kf E - k < fuel → (k ≤ kf (E + 1) - kf E) → ∀ (H : Heap) (locs : List Loc), tf_Wd S0 D (tf_A G sz) s.heap G H locs → ∀ (ls : Array Slot), lv_has ls 6 [(5, .int (nI k)), (4, .int (pt_b (decide (of (o + 1) - of o = kf (E + 1) - kf E) && pm_sameL ar (of o) (kf E) k))), (3, .int (nI o)), (2, .int (nI (kf (E + 1) - kf E))), (0, .ref mm), (1, .int (nI E))] → W p l e (tf_rm 1 0 0) s m ([.ref mm, .int (nI E)] : List Value).toArray below meth c H locs 0 0 (MQ below (tf_Qi S0 D sz G (fun r G1 => r = pt_b (pm_newL ar of (kf E) (kf (E + 1) - kf E) no) ∧ G1 = G)) ([.ref mm, .int (nI E)] : List Value).toArray s 0 0 (tf_A G sz)) (F0 m 55 ls []) := by
            intro fuel55
            induction fuel55 with
            | zero => intro k hfu55; exact absurd hfu55 (Nat.not_lt_zero _)
            | succ fuel55 ih55 =>
              intro k hfu55 hk H locs hw ls hl
              refine lv_iload hx hb dX2_isNew_55 (lv_at hl 0 rfl) ?_
              refine lv_iload_n hx hb dX2_isNew_57 rfl (lv_at hl 3 rfl) ?_
              refine tf_icmp_geN hx hb k (kf (E + 1) - kf E) rfl rfl (tgt := 110) dX2_isNew_58 (by decide) (by omega) (by omega) (fun c58 => ?_) (fun c58 => ?_)
              · have hlke : pm_like ar of (kf E) (kf (E + 1) - kf E) o = (decide (of (o + 1) - of o = kf (E + 1) - kf E) && pm_sameL ar (of o) (kf E) k) := by rw [show k = kf (E + 1) - kf E by omega]; rfl
                refine lv_iload hx hb dX2_isNew_110 (lv_at hl 1 rfl) ?_
                refine lv_if_eq (tgt := 117) hx hb dX2_isNew_112 (by decide) (fun c112 => ?_) (fun c112 => ?_)
                · replace c112 := pt_b0 c112
                  refine lv_iinc (v := nI (o + 1)) (lv' := [(3, .int (nI (o + 1))), (5, .int (nI k)), (4, .int (pt_b (decide (of (o + 1) - of o = kf (E + 1) - kf E) && pm_sameL ar (of o) (kf E) k))), (2, .int (nI (kf (E + 1) - kf E))), (0, .ref mm), (1, .int (nI E))]) hx hb dX2_isNew_117 hl (k := 2) rfl (nI_1 _) (by decide) rfl (fun ls hl => ?_)
                  refine lv_goto (tgt := 18) hx hb dX2_isNew_120 (by decide) ?_
                  exact ih18 (o + 1) (by omega) (by omega) (by show (pm_newL ar of (kf E) (kf (E + 1) - kf E) o && _) = true; rw [hnew, hlke, c112]; rfl) _ _ hw ls (lv_sub hl [0, 3, 4, 5] rfl)
                · replace c112 := pt_b1 c112
                  refine lv_iconst (v := 0) hx hb dX2_isNew_115 (by decide) ?_
                  exact tf_retz C hw hr hlk dX2_isNew_116 (by first | exact Nat.le_of_ble_eq_true rfl | omega) (by first | exact Nat.le_of_ble_eq_true rfl | omega) (Or.inl rfl) (by refine ⟨?_, rfl⟩; have hz := pm_new_f ar of (kf E) (kf (E + 1) - kf E) (no - (o + 1)) (o + 1) (by show (pm_newL ar of (kf E) (kf (E + 1) - kf E) o && _) = false; rw [hlke, c112, Bool.and_comm]; rfl); rw [show o + 1 + (no - (o + 1)) = no by omega] at hz; rw [hz]; rfl)
              · refine lv_iload hx hb dX2_isNew_61 (lv_at hl 1 rfl) ?_
                refine lv_if_eq (tgt := 110) hx hb dX2_isNew_63 (by decide) (fun c63 => ?_) (fun c63 => ?_)
                · replace c63 := pt_b0 c63
                  have hlke : pm_like ar of (kf E) (kf (E + 1) - kf E) o = (decide (of (o + 1) - of o = kf (E + 1) - kf E) && pm_sameL ar (of o) (kf E) k) := by
                    rw [c63]
                    simp only [pm_like]
                    rcases (Bool.and_eq_false_iff.mp c63) with hz | hz
                    · rw [hz]; rfl
                    · have := pm_same_f ar (of o) (kf E) (kf (E + 1) - kf E - k) k hz; rw [show k + (kf (E + 1) - kf E - k) = kf (E + 1) - kf E by omega] at this; rw [this, Bool.and_false]
                  refine lv_iload hx hb dX2_isNew_110 (lv_at hl 1 rfl) ?_
                  refine lv_if_eq (tgt := 117) hx hb dX2_isNew_112 (by decide) (fun c112 => ?_) (fun c112 => ?_)
                  · replace c112 := pt_b0 c112
                    refine lv_iinc (v := nI (o + 1)) (lv' := [(3, .int (nI (o + 1))), (5, .int (nI k)), (4, .int (pt_b (decide (of (o + 1) - of o = kf (E + 1) - kf E) && pm_sameL ar (of o) (kf E) k))), (2, .int (nI (kf (E + 1) - kf E))), (0, .ref mm), (1, .int (nI E))]) hx hb dX2_isNew_117 hl (k := 2) rfl (nI_1 _) (by decide) rfl (fun ls hl => ?_)
                    refine lv_goto (tgt := 18) hx hb dX2_isNew_120 (by decide) ?_
                    exact ih18 (o + 1) (by omega) (by omega) (by show (pm_newL ar of (kf E) (kf (E + 1) - kf E) o && _) = true; rw [hnew, hlke, c112]; rfl) _ _ hw ls (lv_sub hl [0, 3, 4, 5] rfl)
                  · replace c112 := pt_b1 c112
                    refine lv_iconst (v := 0) hx hb dX2_isNew_115 (by decide) ?_
                    exact tf_retz C hw hr hlk dX2_isNew_116 (by first | exact Nat.le_of_ble_eq_true rfl | omega) (by first | exact Nat.le_of_ble_eq_true rfl | omega) (Or.inl rfl) (by refine ⟨?_, rfl⟩; have hz := pm_new_f ar of (kf E) (kf (E + 1) - kf E) (no - (o + 1)) (o + 1) (by show (pm_newL ar of (kf E) (kf (E + 1) - kf E) o && _) = false; rw [hlke, c112, Bool.and_comm]; rfl); rw [show o + 1 + (no - (o + 1)) = no by omega] at hz; rw [hz]; rfl)
                · replace c63 := pt_b1 c63
                  have hdec : of (o + 1) - of o = kf (E + 1) - kf E := by
                    have := (Bool.and_eq_true_iff.mp c63).1
                    exact of_decide_eq_true this
                  refine lv_aload_n hx hb dX2_isNew_66 rfl (lv_at hl 4 rfl) ?_
                  refine gf_X2_91 C hw hm.1 (v := .ref (ad 38)) rfl dX2_isNew_67 ?_
                  refine lv_aload_n hx hb dX2_isNew_70 rfl (lv_at hl 4 rfl) ?_
                  refine gf_X2_88 C hw hm.1 (v := .ref (ad 37)) rfl dX2_isNew_71 ?_
                  refine lv_iload_n hx hb dX2_isNew_74 rfl (lv_at hl 2 rfl) ?_
                  refine mo_ald (v := nI (of o)) C hw hm 37 (by decide) (by decide) o rfl (show o < 241 by omega) (h37 o (by omega)) dX2_isNew_75 ?_
                  refine lv_iload hx hb dX2_isNew_76 (lv_at hl 0 rfl) ?_
                  refine tf_iaddN hx hb (of o) k rfl rfl dX2_isNew_78 ?_
                  refine mo_ald (v := ar 38 ((of o) + k)) C hw hm 38 (by decide) (by decide) ((of o) + k) rfl (show (of o) + k < 240 by omega) rfl dX2_isNew_79 ?_
                  refine lv_aload_n hx hb dX2_isNew_80 rfl (lv_at hl 4 rfl) ?_
                  refine gf_X2_79 C hw hm.1 (v := .ref (ad 33)) rfl dX2_isNew_81 ?_
                  refine lv_aload_n hx hb dX2_isNew_84 rfl (lv_at hl 4 rfl) ?_
                  refine gf_X2_76 C hw hm.1 (v := .ref (ad 32)) rfl dX2_isNew_85 ?_
                  refine lv_iload_n hx hb dX2_isNew_88 rfl (lv_at hl 5 rfl) ?_
                  refine mo_ald (v := nI (kf E)) C hw hm 32 (by decide) (by decide) E rfl (show E < 241 by omega) (h32 E (by omega)) dX2_isNew_89 ?_
                  refine lv_iload hx hb dX2_isNew_90 (lv_at hl 0 rfl) ?_
                  refine tf_iaddN hx hb (kf E) k rfl rfl dX2_isNew_92 ?_
                  refine mo_ald (v := ar 33 ((kf E) + k)) C hw hm 33 (by decide) (by decide) ((kf E) + k) rfl (show (kf E) + k < 240 by omega) rfl dX2_isNew_93 ?_
                  refine lv_icmp_ne (tgt := 101) hx hb dX2_isNew_94 (by decide) (fun c94 => ?_) (fun c94 => ?_)
                  · refine lv_iconst (v := 0) hx hb dX2_isNew_101 (by decide) ?_
                    refine lv_istore (lv' := [(4, .int 0), (5, .int (nI k)), (3, .int (nI o)), (2, .int (nI (kf (E + 1) - kf E))), (0, .ref mm), (1, .int (nI E))]) hx hb dX2_isNew_102 hl (by decide) rfl (fun ls hl => ?_)
                    rw [show (0 : Int32) = pt_b (decide (of (o + 1) - of o = kf (E + 1) - kf E) && pm_sameL ar (of o) (kf E) (k + 1)) by simp only [pm_sameL]; rw [← Bool.and_assoc, c63, decide_eq_false c94]; rfl] at hl
                    refine lv_iinc (v := nI (k + 1)) (lv' := [(5, .int (nI (k + 1))), (4, .int (pt_b (decide (of (o + 1) - of o = kf (E + 1) - kf E) && pm_sameL ar (of o) (kf E) (k + 1)))), (3, .int (nI o)), (2, .int (nI (kf (E + 1) - kf E))), (0, .ref mm), (1, .int (nI E))]) hx hb dX2_isNew_104 hl (k := 1) rfl (nI_1 _) (by decide) rfl (fun ls hl => ?_)
                    refine lv_goto (tgt := 55) hx hb dX2_isNew_107 (by decide) ?_
                    exact ih55 (k + 1) (by omega) (by omega) _ _ hw ls hl
                  · refine lv_iconst (v := 1) hx hb dX2_isNew_97 (by decide) ?_
                    refine lv_goto (tgt := 102) hx hb dX2_isNew_98 (by decide) ?_
                    refine lv_istore (lv' := [(4, .int 1), (5, .int (nI k)), (3, .int (nI o)), (2, .int (nI (kf (E + 1) - kf E))), (0, .ref mm), (1, .int (nI E))]) hx hb dX2_isNew_102 hl (by decide) rfl (fun ls hl => ?_)
                    rw [show (1 : Int32) = pt_b (decide (of (o + 1) - of o = kf (E + 1) - kf E) && pm_sameL ar (of o) (kf E) (k + 1)) by simp only [pm_sameL]; rw [← Bool.and_assoc, c63, decide_eq_true c94]; rfl] at hl
                    refine lv_iinc (v := nI (k + 1)) (lv' := [(5, .int (nI (k + 1))), (4, .int (pt_b (decide (of (o + 1) - of o = kf (E + 1) - kf E) && pm_sameL ar (of o) (kf E) (k + 1)))), (3, .int (nI o)), (2, .int (nI (kf (E + 1) - kf E))), (0, .ref mm), (1, .int (nI E))]) hx hb dX2_isNew_104 hl (k := 1) rfl (nI_1 _) (by decide) rfl (fun ls hl => ?_)
                    refine lv_goto (tgt := 55) hx hb dX2_isNew_107 (by decide) ?_
                    exact ih55 (k + 1) (by omega) (by omega) _ _ hw ls hl
          exact b55 (kf (E + 1) - kf E + 1) 0 (by omega) (by omega) _ _ hw ls hl
  exact b18 (no + 1) 0 (by omega) (by omega) rfl _ _ hw ls hl

def pm_newE (ar : Nat → Nat → Int32) (kf of : Nat → Nat) (no e : Nat) : Bool := pm_newL ar of (kf e) (kf (e + 1) - kf e) no
def pm_cnt (p : Nat → Bool) : Nat → Nat
  | 0 => 0
  | k + 1 => pm_cnt p k + (if p k then 1 else 0)
theorem pm_cnt_le (p : Nat → Bool) : ∀ k, pm_cnt p k ≤ k := by
  intro k
  induction k with
  | zero => exact Nat.le_refl _
  | succ k ih => simp only [pm_cnt]; split <;> omega
theorem pm_cnt_t {p : Nat → Bool} {k : Nat} (h : p k = true) : pm_cnt p k + 1 = pm_cnt p (k + 1) := by simp only [pm_cnt, h, if_true]
theorem pm_cnt_f {p : Nat → Bool} {k : Nat} (h : p k = false) : pm_cnt p k = pm_cnt p (k + 1) := by simp [pm_cnt, h]

set_option maxHeartbeats 4000000 in
set_option maxRecDepth 100000 in
theorem metX2_others {l : Launch} {S0 : State} {D : va_G} {dA : Nat → ClassId} (hB : tf_B S0 D dA) {sz : Nat} {G : tf_Pic} {mm : Nat} {ad : Nat → Nat} {iv : Nat → Int32} {ar : Nat → Nat → Int32} {fr : Nat → Int64} (hm : mo_W dA mm ad iv ar fr G) {nT nh nc nd ne nk : Nat} {hT kf kh : Nat → Nat} (hI : mo_I iv ar nT nh nc nd ne nk hT kf kh) {no : Nat} {of : Nat → Nat} (hO : mo_O iv ar no of) : Met l yX2_others (ws_ yX2_others cX2_others 3 (some .int)) (tf_rm 2 0 0) (tf_Pc S0 D sz G [.ref mm]) (tf_Qi S0 D sz G (fun r G1 => r = (if 2 ≤ iv 22 then nI (pm_cnt (pm_newE ar kf of no) ne) else -3) ∧ G1 = G)) 0 0 (tf_A G sz) := by
  refine Met.ofW (cc := cX2_others) (maxL := 3) (ret := (some .int)) (by decide) rfl ?_
  intro p e s m args below meth c s₁ B hml hv
  obtain ⟨C, hw, hr, hlk, hin, hargs⟩ := tf_enter hB B hml hv
  subst hargs
  have C : tf_C p s m ([.ref mm] : List Value).toArray c cX2_others 3 RX2 S0 D dA := C
  have hx := C.hx
  have hb := C.hb
  change W p l e (tf_rm 2 0 0) s m ([.ref mm] : List Value).toArray below meth c s.heap [] 0 0 (MQ below (tf_Qi S0 D sz G (fun r G1 => r = (if 2 ≤ iv 22 then nI (pm_cnt (pm_newE ar kf of no) ne) else -3) ∧ G1 = G)) ([.ref mm] : List Value).toArray s 0 0 (tf_A G sz)) (entryFrame m ([.ref mm] : List Value).toArray 3)
  have hI0 := hI
  obtain ⟨hk2, hnT, hk5, hnh, h6, hk10, hnc, hk14, hnd, hk30, hne, hk31, hnk, h32, hkf0, hkfn, hkfs, h33⟩ := hI
  have hO0 := hO
  obtain ⟨hk36, hno, h37, hofs, hofn⟩ := hO
  refine tf_start [.ref mm] (Nat.le_of_ble_eq_true rfl) (fun ls hl => ?_)
  have hl : lv_has ls 3 [(0, .ref mm)] := hl
  refine lv_aload_n hx hb dX2_others_0 rfl (lv_at hl 0 rfl) ?_
  refine gf_X2_189 C hw hm.1 (v := .int (iv 22)) rfl dX2_others_1 ?_
  refine lv_iconst (v := 2) hx hb dX2_others_4 (by decide) ?_
  refine lv_icmp_ge (tgt := 11) hx hb dX2_others_5 (by decide) (fun c5 => ?_) (fun c5 => ?_)
  · refine lv_iconst (v := 0) hx hb dX2_others_11 (by decide) ?_
    refine lv_istore_n (lv' := [(1, .int 0), (0, .ref mm)]) hx hb dX2_others_12 rfl hl (by decide) rfl (fun ls hl => ?_)
    refine lv_iconst (v := 0) hx hb dX2_others_13 (by decide) ?_
    refine lv_istore_n (lv' := [(2, .int 0), (1, .int 0), (0, .ref mm)]) hx hb dX2_others_14 rfl hl (by decide) rfl (fun ls hl => ?_)
    have b15 : ∀ (fuel : Nat) (k : Nat), ne - k < fuel → (k ≤ ne) → ∀ (H : Heap) (locs : List Loc), tf_Wd S0 D (tf_A G sz) s.heap G H locs → ∀ (ls : Array Slot), lv_has ls 3 [(2, .int (nI k)), (1, .int (nI (pm_cnt (pm_newE ar kf of no) k))), (0, .ref mm)] → W p l e (tf_rm 2 0 0) s m ([.ref mm] : List Value).toArray below meth c H locs 0 0 (MQ below (tf_Qi S0 D sz G (fun r G1 => r = (if 2 ≤ iv 22 then nI (pm_cnt (pm_newE ar kf of no) ne) else -3) ∧ G1 = G)) ([.ref mm] : List Value).toArray s 0 0 (tf_A G sz)) (F0 m 15 ls []) := by
      intro fuel15
      induction fuel15 with
      | zero => intro k hfu15; exact absurd hfu15 (Nat.not_lt_zero _)
      | succ fuel15 ih15 =>
        intro k hfu15 hk H locs hw ls hl
        refine lv_iload_n hx hb dX2_others_15 rfl (lv_at hl 0 rfl) ?_
        refine lv_aload_n hx hb dX2_others_16 rfl (lv_at hl 2 rfl) ?_
        refine gf_X2_160 C hw hm.1 (v := .int (nI ne)) (by rw [← hk30]; rfl) dX2_others_17 ?_
        refine tf_icmp_geN hx hb k ne rfl rfl (tgt := 45) dX2_others_20 (by decide) (by omega) (by omega) (fun c20 => ?_) (fun c20 => ?_)
        · refine lv_iload_n hx hb dX2_others_45 rfl (lv_at hl 1 rfl) ?_
          exact tf_reti C hw hr hlk dX2_others_46 (by first | exact Nat.le_of_ble_eq_true rfl | omega) (by first | exact Nat.le_of_ble_eq_true rfl | omega) (by refine ⟨?_, rfl⟩; rw [if_pos c5, show k = ne by omega])
        · refine lv_iload_n hx hb dX2_others_23 rfl (lv_at hl 1 rfl) ?_
          refine lv_aload_n hx hb dX2_others_24 rfl (lv_at hl 2 rfl) ?_
          refine lv_iload_n hx hb dX2_others_25 rfl (lv_at hl 0 rfl) ?_
          refine tf_goi (tf_V (n := 1) C hw hm.1 rfl [.int (nI k)] (metX2_isNew hB hm hI0 hO0 (E := k) (by omega)) (lw_V q1160 q1162 qs34 q45 q1163) rfl ⟨by decide, by decide, by decide +kernel⟩ ⟨rfl, rfl, Nat.le_of_ble_eq_true rfl, Nat.le_of_ble_eq_true rfl, (by first | exact Nat.le_of_ble_eq_true rfl | (show _ ≤ 0; omega)), (by first | exact Nat.le_of_ble_eq_true rfl | (show _ ≤ 0; omega))⟩ rfl hl rfl (Nat.le_of_ble_eq_true rfl) dX2_others_26) hw (fun r1 G1 H locs hp1 hw => ?_)
          obtain ⟨hre, hGe⟩ := hp1
          have hre : r1 = pt_b (pm_newE ar kf of no k) := hre
          obtain rfl := hre.symm
          obtain rfl := hGe.symm
          refine lv_if_eq (tgt := 36) hx hb dX2_others_29 (by decide) (fun c29 => ?_) (fun c29 => ?_)
          · replace c29 := pt_b0 c29
            refine lv_iconst (v := 0) hx hb dX2_others_36 (by decide) ?_
            refine tf_iaddN hx hb (pm_cnt (pm_newE ar kf of no) k) 0 rfl rfl dX2_others_37 ?_
            refine lv_istore_n (lv' := [(1, .int (nI ((pm_cnt (pm_newE ar kf of no) k) + 0))), (2, .int (nI k)), (0, .ref mm)]) hx hb dX2_others_38 rfl hl (by decide) rfl (fun ls hl => ?_)
            rw [show (pm_cnt (pm_newE ar kf of no) k) + 0 = pm_cnt (pm_newE ar kf of no) (k + 1) from pm_cnt_f (p := pm_newE ar kf of no) (c29)] at hl
            refine lv_iinc (v := nI (k + 1)) (lv' := [(2, .int (nI (k + 1))), (1, .int (nI (pm_cnt (pm_newE ar kf of no) (k + 1)))), (0, .ref mm)]) hx hb dX2_others_39 hl (k := 1) rfl (nI_1 _) (by decide) rfl (fun ls hl => ?_)
            refine lv_goto (tgt := 15) hx hb dX2_others_42 (by decide) ?_
            exact ih15 (k + 1) (by omega) (by omega) _ _ hw ls hl
          · replace c29 := pt_b1 c29
            refine lv_iconst (v := 1) hx hb dX2_others_32 (by decide) ?_
            refine lv_goto (tgt := 37) hx hb dX2_others_33 (by decide) ?_
            refine tf_iaddN hx hb (pm_cnt (pm_newE ar kf of no) k) 1 rfl rfl dX2_others_37 ?_
            refine lv_istore_n (lv' := [(1, .int (nI ((pm_cnt (pm_newE ar kf of no) k) + 1))), (2, .int (nI k)), (0, .ref mm)]) hx hb dX2_others_38 rfl hl (by decide) rfl (fun ls hl => ?_)
            rw [show (pm_cnt (pm_newE ar kf of no) k) + 1 = pm_cnt (pm_newE ar kf of no) (k + 1) from pm_cnt_t (p := pm_newE ar kf of no) (c29)] at hl
            refine lv_iinc (v := nI (k + 1)) (lv' := [(2, .int (nI (k + 1))), (1, .int (nI (pm_cnt (pm_newE ar kf of no) (k + 1)))), (0, .ref mm)]) hx hb dX2_others_39 hl (k := 1) rfl (nI_1 _) (by decide) rfl (fun ls hl => ?_)
            refine lv_goto (tgt := 15) hx hb dX2_others_42 (by decide) ?_
            exact ih15 (k + 1) (by omega) (by omega) _ _ hw ls hl
    exact b15 (ne + 1) 0 (by omega) (by omega) _ _ hw ls hl
  · refine lv_bipush (v := (-3)) hx hb dX2_others_8 (by decide) ?_
    exact tf_reti C hw hr hlk dX2_others_10 (by first | exact Nat.le_of_ble_eq_true rfl | omega) (by first | exact Nat.le_of_ble_eq_true rfl | omega) (by refine ⟨?_, rfl⟩; rw [if_neg c5])

set_option maxHeartbeats 4000000 in
set_option maxRecDepth 100000 in
theorem metX2_isOther {l : Launch} {S0 : State} {D : va_G} {dA : Nat → ClassId} (hB : tf_B S0 D dA) {sz : Nat} {G : tf_Pic} {mm : Nat} {ad : Nat → Nat} {iv : Nat → Int32} {ar : Nat → Nat → Int32} {fr : Nat → Int64} (hm : mo_W dA mm ad iv ar fr G) {nT nh nc nd ne nk : Nat} {hT kf kh : Nat → Nat} (hI : mo_I iv ar nT nh nc nd ne nk hT kf kh) {no : Nat} {of : Nat → Nat} (hO : mo_O iv ar no of) (e0 : Int32) : Met l yX2_isOther (ws_ yX2_isOther cX2_isOther 2 (some .int)) (tf_rm 2 0 0) (tf_Pc S0 D sz G [.ref mm, .int e0]) (tf_Qi S0 D sz G (fun r G1 => r = (if pm_of e0 (nI ne) then (if 2 ≤ iv 22 then pt_b (pm_newE ar kf of no e0.toNatClampNeg) else -3) else -1) ∧ G1 = G)) 0 0 (tf_A G sz) := by
  refine Met.ofW (cc := cX2_isOther) (maxL := 2) (ret := (some .int)) (by decide) rfl ?_
  intro p e s m args below meth c s₁ B hml hv
  obtain ⟨C, hw, hr, hlk, hin, hargs⟩ := tf_enter hB B hml hv
  subst hargs
  have C : tf_C p s m ([.ref mm, .int e0] : List Value).toArray c cX2_isOther 2 RX2 S0 D dA := C
  have hx := C.hx
  have hb := C.hb
  change W p l e (tf_rm 2 0 0) s m ([.ref mm, .int e0] : List Value).toArray below meth c s.heap [] 0 0 (MQ below (tf_Qi S0 D sz G (fun r G1 => r = (if pm_of e0 (nI ne) then (if 2 ≤ iv 22 then pt_b (pm_newE ar kf of no e0.toNatClampNeg) else -3) else -1) ∧ G1 = G)) ([.ref mm, .int e0] : List Value).toArray s 0 0 (tf_A G sz)) (entryFrame m ([.ref mm, .int e0] : List Value).toArray 2)
  have hI0 := hI
  obtain ⟨hk2, hnT, hk5, hnh, h6, hk10, hnc, hk14, hnd, hk30, hne, hk31, hnk, h32, hkf0, hkfn, hkfs, h33⟩ := hI
  have hO0 := hO
  obtain ⟨hk36, hno, h37, hofs, hofn⟩ := hO
  refine tf_start [.ref mm, .int e0] (Nat.le_of_ble_eq_true rfl) (fun ls hl => ?_)
  have hl : lv_has ls 2 [(0, .ref mm), (1, .int e0)] := hl
  refine lv_aload_n hx hb dX2_isOther_0 rfl (lv_at hl 0 rfl) ?_
  refine lv_iload_n hx hb dX2_isOther_1 rfl (lv_at hl 1 rfl) ?_
  refine tf_goi (tf_V (n := 1) C hw hm.1 rfl [.int e0] (metX2_isEvent hB hm e0) (lw_V q1168 q1170 qs35 q45 q1171) rfl ⟨by decide, by decide, by decide +kernel⟩ ⟨rfl, rfl, Nat.le_of_ble_eq_true rfl, Nat.le_of_ble_eq_true rfl, (by first | exact Nat.le_of_ble_eq_true rfl | (show _ ≤ 0; omega)), (by first | exact Nat.le_of_ble_eq_true rfl | (show _ ≤ 0; omega))⟩ rfl hl rfl (Nat.le_of_ble_eq_true rfl) dX2_isOther_2) hw (fun r1 G1 H locs hp1 hw => ?_)
  obtain ⟨hre, hGe⟩ := hp1
  have hre : r1 = pt_b (pm_of e0 (iv 30)) := hre
  obtain rfl := hre.symm
  obtain rfl := hGe.symm
  refine lv_if_ne (tgt := 10) hx hb dX2_isOther_5 (by decide) (fun c5 => ?_) (fun c5 => ?_)
  · replace c5 := pt_b1 c5
    have c_e := c5
    rw [hk30] at c_e
    obtain ⟨E, hE, hEe, hEc⟩ := pm_clof (by omega) c_e
    rw [hEe] at hl
    have hE1 := hkfs E hE
    have hE2 := mo_le hkfs (e := E + 1) hE
    refine lv_aload_n hx hb dX2_isOther_10 rfl (lv_at hl 0 rfl) ?_
    refine gf_X2_189 C hw hm.1 (v := .int (iv 22)) rfl dX2_isOther_11 ?_
    refine lv_iconst (v := 2) hx hb dX2_isOther_14 (by decide) ?_
    refine lv_icmp_ge (tgt := 21) hx hb dX2_isOther_15 (by decide) (fun c15 => ?_) (fun c15 => ?_)
    · refine lv_aload_n hx hb dX2_isOther_21 rfl (lv_at hl 0 rfl) ?_
      refine lv_iload_n hx hb dX2_isOther_22 rfl (lv_at hl 1 rfl) ?_
      refine tf_goi (tf_V (n := 1) C hw hm.1 rfl [.int (nI E)] (metX2_isNew hB hm hI0 hO0 (E := E) (by omega)) (lw_V q1160 q1162 qs34 q45 q1163) rfl ⟨by decide, by decide, by decide +kernel⟩ ⟨rfl, rfl, Nat.le_of_ble_eq_true rfl, Nat.le_of_ble_eq_true rfl, (by first | exact Nat.le_of_ble_eq_true rfl | (show _ ≤ 0; omega)), (by first | exact Nat.le_of_ble_eq_true rfl | (show _ ≤ 0; omega))⟩ rfl hl rfl (Nat.le_of_ble_eq_true rfl) dX2_isOther_23) hw (fun r2 G2 H locs hp2 hw => ?_)
      obtain ⟨hre, hGe⟩ := hp2
      have hre : r2 = pt_b (pm_newE ar kf of no E) := hre
      obtain rfl := hre.symm
      obtain rfl := hGe.symm
      refine lv_if_eq (tgt := 33) hx hb dX2_isOther_26 (by decide) (fun c26 => ?_) (fun c26 => ?_)
      · replace c26 := pt_b0 c26
        refine lv_iconst (v := 0) hx hb dX2_isOther_33 (by decide) ?_
        refine tf_reti C hw hr hlk dX2_isOther_34 (by first | exact Nat.le_of_ble_eq_true rfl | omega) (by first | exact Nat.le_of_ble_eq_true rfl | omega) ?_
        refine ⟨?_, rfl⟩
        rw [c_e, if_pos rfl, if_pos c15, hEc, c26]
        rfl
      · replace c26 := pt_b1 c26
        refine lv_iconst (v := 1) hx hb dX2_isOther_29 (by decide) ?_
        refine lv_goto (tgt := 34) hx hb dX2_isOther_30 (by decide) ?_
        refine tf_reti C hw hr hlk dX2_isOther_34 (by first | exact Nat.le_of_ble_eq_true rfl | omega) (by first | exact Nat.le_of_ble_eq_true rfl | omega) ?_
        refine ⟨?_, rfl⟩
        rw [c_e, if_pos rfl, if_pos c15, hEc, c26]
        rfl
    · refine lv_bipush (v := (-3)) hx hb dX2_isOther_18 (by decide) ?_
      refine tf_reti C hw hr hlk dX2_isOther_20 (by first | exact Nat.le_of_ble_eq_true rfl | omega) (by first | exact Nat.le_of_ble_eq_true rfl | omega) ?_
      refine ⟨?_, rfl⟩
      rw [c_e, if_pos rfl, if_neg c15]
  · replace c5 := pt_b0 c5
    refine lv_iconst (v := (-1)) hx hb dX2_isOther_8 (by decide) ?_
    refine tf_reti C hw hr hlk dX2_isOther_9 (by first | exact Nat.le_of_ble_eq_true rfl | omega) (by first | exact Nat.le_of_ble_eq_true rfl | omega) ?_
    refine ⟨?_, rfl⟩
    rw [hk30] at c5
    rw [c5]
    rfl
