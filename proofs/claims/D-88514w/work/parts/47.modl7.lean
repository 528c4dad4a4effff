/-! MODULE TankFieldModel, part 7: about, struck, load -/
set_option maxRecDepth 100000
def pm_about (ar : Nat → Nat → Int32) (hT kh : Nat → Nat) (nT nh nd nk : Nat) (t what : Int32) : Int32 := if pm_of t (nI nT) then (if what = 0 then ar 3 t.toNatClampNeg else if what = 1 then ar 4 t.toNatClampNeg else if what = 2 then nI (pm_cnt (fun h => decide (hT h = t.toNatClampNeg)) nh) else if what = 3 then nI (pm_cnt (fun h => decide (hT h = t.toNatClampNeg) && !pm_look ar nd h) nh) else if what = 4 then nI (pm_cnt (fun k => decide (hT (kh k) = t.toNatClampNeg)) nk) else -2) else -1

set_option maxHeartbeats 4000000 in
set_option maxRecDepth 100000 in
theorem metX2_about {l : Launch} {S0 : State} {D : va_G} {dA : Nat → ClassId} (hB : tf_B S0 D dA) {sz : Nat} {G : tf_Pic} {mm : Nat} {ad : Nat → Nat} {iv : Nat → Int32} {ar : Nat → Nat → Int32} {fr : Nat → Int64} (hm : mo_W dA mm ad iv ar fr G) {nT nh nc nd ne nk : Nat} {hT kf kh : Nat → Nat} (hI : mo_I iv ar nT nh nc nd ne nk hT kf kh) (t what : Int32) : Met l yX2_about (ws_ yX2_about cX2_about 5 (some .int)) (tf_rm 3 0 0) (tf_Pc S0 D sz G [.ref mm, .int t, .int what]) (tf_Qi S0 D sz G (fun r G1 => r = pm_about ar hT kh nT nh nd nk t what ∧ G1 = G)) 0 0 (tf_A G sz) := by
  refine Met.ofW (cc := cX2_about) (maxL := 5) (ret := (some .int)) (by decide) rfl ?_
  intro p e s m args below meth c s₁ B hml hv
  obtain ⟨C, hw, hr, hlk, hin, hargs⟩ := tf_enter hB B hml hv
  subst hargs
  have C : tf_C p s m ([.ref mm, .int t, .int what] : List Value).toArray c cX2_about 5 RX2 S0 D dA := C
  have hx := C.hx
  have hb := C.hb
  change W p l e (tf_rm 3 0 0) s m ([.ref mm, .int t, .int what] : List Value).toArray below meth c s.heap [] 0 0 (MQ below (tf_Qi S0 D sz G (fun r G1 => r = pm_about ar hT kh nT nh nd nk t what ∧ G1 = G)) ([.ref mm, .int t, .int what] : List Value).toArray s 0 0 (tf_A G sz)) (entryFrame m ([.ref mm, .int t, .int what] : List Value).toArray 5)
  have hI0 := hI
  obtain ⟨hk2, hnT, hk5, hnh, h6, hk10, hnc, hk14, hnd, hk30, hne, hk31, hnk, h32, hkf0, hkfn, hkfs, h33⟩ := hI
  refine tf_start [.ref mm, .int t, .int what] (Nat.le_of_ble_eq_true rfl) (fun ls hl => ?_)
  have hl : lv_has ls 5 [(0, .ref mm), (1, .int t), (2, .int what)] := hl
  refine lv_aload_n hx hb dX2_about_0 rfl (lv_at hl 0 rfl) ?_
  refine lv_iload_n hx hb dX2_about_1 rfl (lv_at hl 1 rfl) ?_
  refine tf_goi (tf_V (n := 1) C hw hm.1 rfl [.int t] (metX2_isTank hB hm t) (lw_V q1063 q1065 qs20 q45 q1066) rfl ⟨by decide, by decide, by decide +kernel⟩ ⟨rfl, rfl, Nat.le_of_ble_eq_true rfl, Nat.le_of_ble_eq_true rfl, (by first | exact Nat.le_of_ble_eq_true rfl | (show _ ≤ 0; omega)), (by first | exact Nat.le_of_ble_eq_true rfl | (show _ ≤ 0; omega))⟩ rfl hl rfl (Nat.le_of_ble_eq_true rfl) dX2_about_2) hw (fun r1 G1 H locs hp1 hw => ?_)
  obtain ⟨hre, hGe⟩ := hp1
  have hre : r1 = pt_b (pm_of t (iv 2)) := hre
  obtain rfl := hre.symm
  obtain rfl := hGe.symm
  refine lv_if_ne (tgt := 10) hx hb dX2_about_5 (by decide) (fun c5 => ?_) (fun c5 => ?_)
  · replace c5 := pt_b1 c5
    have c_t := c5
    rw [hk2] at c_t
    obtain ⟨T, hTb, hTe, hTc⟩ := pm_clof (by omega) c_t
    rw [hTe] at hl
    refine lv_iconst (v := 0) hx hb dX2_about_10 (by decide) ?_
    refine lv_istore_n (lv' := [(3, .int 0), (0, .ref mm), (1, .int (nI T)), (2, .int what)]) hx hb dX2_about_11 rfl hl (by decide) rfl (fun ls hl => ?_)
    refine lv_iload_n hx hb dX2_about_12 rfl (lv_at hl 3 rfl) ?_
    rcases tf_sw5 what with c13 | c13 | c13 | c13 | c13 | c13
    · refine lv_tableIn (tgt := 48) hx hb dX2_about_13 (by rw [c13]; decide) (by rw [c13]; decide) (off := 35) (by rw [c13]; rfl) (by decide) ?_
      refine lv_aload_n hx hb dX2_about_48 rfl (lv_at hl 1 rfl) ?_
      refine gf_X2_7 C hw hm.1 (v := .ref (ad 3)) rfl dX2_about_49 ?_
      refine lv_iload_n hx hb dX2_about_52 rfl (lv_at hl 2 rfl) ?_
      refine mo_ald (v := ar 3 T) C hw hm 3 (by decide) (by decide) T rfl (show T < 30 by omega) rfl dX2_about_53 ?_
      refine tf_reti C hw hr hlk dX2_about_54 (by first | exact Nat.le_of_ble_eq_true rfl | omega) (by first | exact Nat.le_of_ble_eq_true rfl | omega) ?_
      refine ⟨?_, rfl⟩
      simp only [pm_about, c_t, hTc, if_true]
      rw [c13]
      rfl
    · refine lv_tableIn (tgt := 55) hx hb dX2_about_13 (by rw [c13]; decide) (by rw [c13]; decide) (off := 42) (by rw [c13]; rfl) (by decide) ?_
      refine lv_aload_n hx hb dX2_about_55 rfl (lv_at hl 1 rfl) ?_
      refine gf_X2_13 C hw hm.1 (v := .ref (ad 4)) rfl dX2_about_56 ?_
      refine lv_iload_n hx hb dX2_about_59 rfl (lv_at hl 2 rfl) ?_
      refine mo_ald (v := ar 4 T) C hw hm 4 (by decide) (by decide) T rfl (show T < 30 by omega) rfl dX2_about_60 ?_
      refine tf_reti C hw hr hlk dX2_about_61 (by first | exact Nat.le_of_ble_eq_true rfl | omega) (by first | exact Nat.le_of_ble_eq_true rfl | omega) ?_
      refine ⟨?_, rfl⟩
      simp only [pm_about, c_t, hTc, if_true]
      rw [c13]
      rfl
    · refine lv_tableIn (tgt := 62) hx hb dX2_about_13 (by rw [c13]; decide) (by rw [c13]; decide) (off := 49) (by rw [c13]; rfl) (by decide) ?_
      refine lv_iconst (v := 0) hx hb dX2_about_62 (by decide) ?_
      refine lv_istore (lv' := [(4, .int 0), (3, .int 0), (0, .ref mm), (1, .int (nI T)), (2, .int what)]) hx hb dX2_about_63 hl (by decide) rfl (fun ls hl => ?_)
      have b65 : ∀ (fuel : Nat) (k : Nat), nh - k < fuel → (k ≤ nh) → (pm_cnt (fun h => decide (hT h = T)) k ≤ k) → ∀ (H : Heap) (locs : List Loc), tf_Wd S0 D (tf_A G sz) s.heap G H locs → ∀ (ls : Array Slot), lv_has ls 5 [(4, .int (nI k)), (3, .int (nI (pm_cnt (fun h => decide (hT h = T)) k))), (0, .ref mm), (1, .int (nI T)), (2, .int what)] → W p l e (tf_rm 3 0 0) s m ([.ref mm, .int t, .int what] : List Value).toArray below meth c H locs 0 0 (MQ below (tf_Qi S0 D sz G (fun r G1 => r = pm_about ar hT kh nT nh nd nk t what ∧ G1 = G)) ([.ref mm, .int t, .int what] : List Value).toArray s 0 0 (tf_A G sz)) (F0 m 65 ls []) := by
        intro fuel65
        induction fuel65 with
        | zero => intro k hfu65; exact absurd hfu65 (Nat.not_lt_zero _)
        | succ fuel65 ih65 =>
          intro k hfu65 hk hcl H locs hw ls hl
          refine lv_iload hx hb dX2_about_65 (lv_at hl 0 rfl) ?_
          refine lv_aload_n hx hb dX2_about_67 rfl (lv_at hl 2 rfl) ?_
          refine gf_X2_107 C hw hm.1 (v := .int (nI nh)) (by rw [← hk5]; rfl) dX2_about_68 ?_
          refine tf_icmp_geN hx hb k nh rfl rfl (tgt := 99) dX2_about_71 (by decide) (by omega) (by omega) (fun c71 => ?_) (fun c71 => ?_)
          · refine lv_iload_n hx hb dX2_about_99 rfl (lv_at hl 1 rfl) ?_
            refine tf_reti C hw hr hlk dX2_about_100 (by first | exact Nat.le_of_ble_eq_true rfl | omega) (by first | exact Nat.le_of_ble_eq_true rfl | omega) ?_
            refine ⟨?_, rfl⟩
            simp only [pm_about, c_t, hTc, if_true]
            rw [show nh = k by omega]
            rw [c13]
            rfl
          · have h6k := h6 k (by omega)
            refine lv_iload_n hx hb dX2_about_74 rfl (lv_at hl 1 rfl) ?_
            refine lv_aload_n hx hb dX2_about_75 rfl (lv_at hl 2 rfl) ?_
            refine gf_X2_16 C hw hm.1 (v := .ref (ad 6)) rfl dX2_about_76 ?_
            refine lv_iload hx hb dX2_about_79 (lv_at hl 0 rfl) ?_
            refine mo_ald (v := nI (hT k)) C hw hm 6 (by decide) (by decide) k rfl (show k < 240 by omega) (h6 k (by omega)).1 dX2_about_81 ?_
            refine lv_iload_n hx hb dX2_about_82 rfl (lv_at hl 3 rfl) ?_
            refine tf_icmp_neN hx hb (hT k) T rfl rfl (tgt := 90) dX2_about_83 (by decide) (by omega) (by omega) (fun c83 => ?_) (fun c83 => ?_)
            · refine lv_iconst (v := 0) hx hb dX2_about_90 (by decide) ?_
              refine tf_iaddN hx hb (pm_cnt (fun h => decide (hT h = T)) k) 0 rfl rfl dX2_about_91 ?_
              refine lv_istore_n (lv' := [(3, .int (nI ((pm_cnt (fun h => decide (hT h = T)) k) + 0))), (4, .int (nI k)), (0, .ref mm), (1, .int (nI T)), (2, .int what)]) hx hb dX2_about_92 rfl hl (by decide) rfl (fun ls hl => ?_)
              rw [show (pm_cnt (fun h => decide (hT h = T)) k) + 0 = pm_cnt (fun h => decide (hT h = T)) (k + 1) from pm_cnt_f (p := fun h => decide (hT h = T)) (decide_eq_false c83)] at hl
              refine lv_iinc (v := nI (k + 1)) (lv' := [(4, .int (nI (k + 1))), (3, .int (nI (pm_cnt (fun h => decide (hT h = T)) (k + 1)))), (0, .ref mm), (1, .int (nI T)), (2, .int what)]) hx hb dX2_about_93 hl (k := 1) rfl (nI_1 _) (by decide) rfl (fun ls hl => ?_)
              refine lv_goto (tgt := 65) hx hb dX2_about_96 (by decide) ?_
              exact ih65 (k + 1) (by omega) (by omega) (pm_cnt_le _ _) _ _ hw ls hl
            · refine lv_iconst (v := 1) hx hb dX2_about_86 (by decide) ?_
              refine lv_goto (tgt := 91) hx hb dX2_about_87 (by decide) ?_
              refine tf_iaddN hx hb (pm_cnt (fun h => decide (hT h = T)) k) 1 rfl rfl dX2_about_91 ?_
              refine lv_istore_n (lv' := [(3, .int (nI ((pm_cnt (fun h => decide (hT h = T)) k) + 1))), (4, .int (nI k)), (0, .ref mm), (1, .int (nI T)), (2, .int what)]) hx hb dX2_about_92 rfl hl (by decide) rfl (fun ls hl => ?_)
              rw [show (pm_cnt (fun h => decide (hT h = T)) k) + 1 = pm_cnt (fun h => decide (hT h = T)) (k + 1) from pm_cnt_t (p := fun h => decide (hT h = T)) (decide_eq_true c83)] at hl
              refine lv_iinc (v := nI (k + 1)) (lv' := [(4, .int (nI (k + 1))), (3, .int (nI (pm_cnt (fun h => decide (hT h = T)) (k + 1)))), (0, .ref mm), (1, .int (nI T)), (2, .int what)]) hx hb dX2_about_93 hl (k := 1) rfl (nI_1 _) (by decide) rfl (fun ls hl => ?_)
              refine lv_goto (tgt := 65) hx hb dX2_about_96 (by decide) ?_
              exact ih65 (k + 1) (by omega) (by omega) (pm_cnt_le _ _) _ _ hw ls hl
      exact b65 (nh + 1) 0 (by omega) (by omega) (by exact Nat.le_refl _) _ _ hw ls hl
    · refine lv_tableIn (tgt := 101) hx hb dX2_about_13 (by rw [c13]; decide) (by rw [c13]; decide) (off := 88) (by rw [c13]; rfl) (by decide) ?_
      refine lv_iconst (v := 0) hx hb dX2_about_101 (by decide) ?_
      refine lv_istore (lv' := [(4, .int 0), (3, .int 0), (0, .ref mm), (1, .int (nI T)), (2, .int what)]) hx hb dX2_about_102 hl (by decide) rfl (fun ls hl => ?_)
      have b104 : ∀ (fuel : Nat) (k : Nat), nh - k < fuel → (k ≤ nh) → (pm_cnt (fun h => decide (hT h = T) && !pm_look ar nd h) k ≤ k) → ∀ (H : Heap) (locs : List Loc), tf_Wd S0 D (tf_A G sz) s.heap G H locs → ∀ (ls : Array Slot), lv_has ls 5 [(4, .int (nI k)), (3, .int (nI (pm_cnt (fun h => decide (hT h = T) && !pm_look ar nd h) k))), (0, .ref mm), (1, .int (nI T)), (2, .int what)] → W p l e (tf_rm 3 0 0) s m ([.ref mm, .int t, .int what] : List Value).toArray below meth c H locs 0 0 (MQ below (tf_Qi S0 D sz G (fun r G1 => r = pm_about ar hT kh nT nh nd nk t what ∧ G1 = G)) ([.ref mm, .int t, .int what] : List Value).toArray s 0 0 (tf_A G sz)) (F0 m 104 ls []) := by
        intro fuel104
        induction fuel104 with
        | zero => intro k hfu104; exact absurd hfu104 (Nat.not_lt_zero _)
        | succ fuel104 ih104 =>
          intro k hfu104 hk hcl H locs hw ls hl
          refine lv_iload hx hb dX2_about_104 (lv_at hl 0 rfl) ?_
          refine lv_aload_n hx hb dX2_about_106 rfl (lv_at hl 2 rfl) ?_
          refine gf_X2_107 C hw hm.1 (v := .int (nI nh)) (by rw [← hk5]; rfl) dX2_about_107 ?_
          refine tf_icmp_geN hx hb k nh rfl rfl (tgt := 147) dX2_about_110 (by decide) (by omega) (by omega) (fun c110 => ?_) (fun c110 => ?_)
          · refine lv_iload_n hx hb dX2_about_147 rfl (lv_at hl 1 rfl) ?_
            refine tf_reti C hw hr hlk dX2_about_148 (by first | exact Nat.le_of_ble_eq_true rfl | omega) (by first | exact Nat.le_of_ble_eq_true rfl | omega) ?_
            refine ⟨?_, rfl⟩
            simp only [pm_about, c_t, hTc, if_true]
            rw [show nh = k by omega]
            rw [c13]
            rfl
          · have h6k := h6 k (by omega)
            refine lv_iload_n hx hb dX2_about_113 rfl (lv_at hl 1 rfl) ?_
            refine lv_aload_n hx hb dX2_about_114 rfl (lv_at hl 2 rfl) ?_
            refine gf_X2_16 C hw hm.1 (v := .ref (ad 6)) rfl dX2_about_115 ?_
            refine lv_iload hx hb dX2_about_118 (lv_at hl 0 rfl) ?_
            refine mo_ald (v := nI (hT k)) C hw hm 6 (by decide) (by decide) k rfl (show k < 240 by omega) (h6 k (by omega)).1 dX2_about_120 ?_
            refine lv_iload_n hx hb dX2_about_121 rfl (lv_at hl 3 rfl) ?_
            refine tf_icmp_neN hx hb (hT k) T rfl rfl (tgt := 138) dX2_about_122 (by decide) (by omega) (by omega) (fun c122 => ?_) (fun c122 => ?_)
            · refine lv_iconst (v := 0) hx hb dX2_about_138 (by decide) ?_
              refine tf_iaddN hx hb (pm_cnt (fun h => decide (hT h = T) && !pm_look ar nd h) k) 0 rfl rfl dX2_about_139 ?_
              refine lv_istore_n (lv' := [(3, .int (nI ((pm_cnt (fun h => decide (hT h = T) && !pm_look ar nd h) k) + 0))), (4, .int (nI k)), (0, .ref mm), (1, .int (nI T)), (2, .int what)]) hx hb dX2_about_140 rfl hl (by decide) rfl (fun ls hl => ?_)
              rw [show (pm_cnt (fun h => decide (hT h = T) && !pm_look ar nd h) k) + 0 = pm_cnt (fun h => decide (hT h = T) && !pm_look ar nd h) (k + 1) from pm_cnt_f (p := fun h => decide (hT h = T) && !pm_look ar nd h) (by simp only [decide_eq_false c122, Bool.false_and])] at hl
              refine lv_iinc (v := nI (k + 1)) (lv' := [(4, .int (nI (k + 1))), (3, .int (nI (pm_cnt (fun h => decide (hT h = T) && !pm_look ar nd h) (k + 1)))), (0, .ref mm), (1, .int (nI T)), (2, .int what)]) hx hb dX2_about_141 hl (k := 1) rfl (nI_1 _) (by decide) rfl (fun ls hl => ?_)
              refine lv_goto (tgt := 104) hx hb dX2_about_144 (by decide) ?_
              exact ih104 (k + 1) (by omega) (by omega) (pm_cnt_le _ _) _ _ hw ls hl
            · refine lv_aload_n hx hb dX2_about_125 rfl (lv_at hl 2 rfl) ?_
              refine lv_iload hx hb dX2_about_126 (lv_at hl 0 rfl) ?_
              refine tf_goi (tf_V (n := 1) C hw hm.1 rfl [.int (nI k)] (metX2_isLooked hB hm (h := k) (by omega) hk14 hnd) (lw_V q1092 q1094 qs23 q45 q1095) rfl ⟨by decide, by decide, by decide +kernel⟩ ⟨rfl, rfl, Nat.le_of_ble_eq_true rfl, Nat.le_of_ble_eq_true rfl, (by first | exact Nat.le_of_ble_eq_true rfl | (show _ ≤ 0; omega)), (by first | exact Nat.le_of_ble_eq_true rfl | (show _ ≤ 0; omega))⟩ rfl hl rfl (Nat.le_of_ble_eq_true rfl) dX2_about_128) hw (fun r2 G2 H locs hp2 hw => ?_)
              obtain ⟨hre, hGe⟩ := hp2
              have hre : r2 = pt_b (pm_look ar nd k) := hre
              obtain rfl := hre.symm
              obtain rfl := hGe.symm
              refine lv_if_ne (tgt := 138) hx hb dX2_about_131 (by decide) (fun c131 => ?_) (fun c131 => ?_)
              · replace c131 := pt_b1 c131
                refine lv_iconst (v := 0) hx hb dX2_about_138 (by decide) ?_
                refine tf_iaddN hx hb (pm_cnt (fun h => decide (hT h = T) && !pm_look ar nd h) k) 0 rfl rfl dX2_about_139 ?_
                refine lv_istore_n (lv' := [(3, .int (nI ((pm_cnt (fun h => decide (hT h = T) && !pm_look ar nd h) k) + 0))), (4, .int (nI k)), (0, .ref mm), (1, .int (nI T)), (2, .int what)]) hx hb dX2_about_140 rfl hl (by decide) rfl (fun ls hl => ?_)
                rw [show (pm_cnt (fun h => decide (hT h = T) && !pm_look ar nd h) k) + 0 = pm_cnt (fun h => decide (hT h = T) && !pm_look ar nd h) (k + 1) from pm_cnt_f (p := fun h => decide (hT h = T) && !pm_look ar nd h) (by simp only [c131, Bool.not_true, Bool.and_false])] at hl
                refine lv_iinc (v := nI (k + 1)) (lv' := [(4, .int (nI (k + 1))), (3, .int (nI (pm_cnt (fun h => decide (hT h = T) && !pm_look ar nd h) (k + 1)))), (0, .ref mm), (1, .int (nI T)), (2, .int what)]) hx hb dX2_about_141 hl (k := 1) rfl (nI_1 _) (by decide) rfl (fun ls hl => ?_)
                refine lv_goto (tgt := 104) hx hb dX2_about_144 (by decide) ?_
                exact ih104 (k + 1) (by omega) (by omega) (pm_cnt_le _ _) _ _ hw ls hl
              · replace c131 := pt_b0 c131
                refine lv_iconst (v := 1) hx hb dX2_about_134 (by decide) ?_
                refine lv_goto (tgt := 139) hx hb dX2_about_135 (by decide) ?_
                refine tf_iaddN hx hb (pm_cnt (fun h => decide (hT h = T) && !pm_look ar nd h) k) 1 rfl rfl dX2_about_139 ?_
                refine lv_istore_n (lv' := [(3, .int (nI ((pm_cnt (fun h => decide (hT h = T) && !pm_look ar nd h) k) + 1))), (4, .int (nI k)), (0, .ref mm), (1, .int (nI T)), (2, .int what)]) hx hb dX2_about_140 rfl hl (by decide) rfl (fun ls hl => ?_)
                rw [show (pm_cnt (fun h => decide (hT h = T) && !pm_look ar nd h) k) + 1 = pm_cnt (fun h => decide (hT h = T) && !pm_look ar nd h) (k + 1) from pm_cnt_t (p := fun h => decide (hT h = T) && !pm_look ar nd h) (by simp only [decide_eq_true c122, c131, Bool.not_false, Bool.and_self])] at hl
                refine lv_iinc (v := nI (k + 1)) (lv' := [(4, .int (nI (k + 1))), (3, .int (nI (pm_cnt (fun h => decide (hT h = T) && !pm_look ar nd h) (k + 1)))), (0, .ref mm), (1, .int (nI T)), (2, .int what)]) hx hb dX2_about_141 hl (k := 1) rfl (nI_1 _) (by decide) rfl (fun ls hl => ?_)
                refine lv_goto (tgt := 104) hx hb dX2_about_144 (by decide) ?_
                exact ih104 (k + 1) (by omega) (by omega) (pm_cnt_le _ _) _ _ hw ls hl
      exact b104 (nh + 1) 0 (by omega) (by omega) (by exact Nat.le_refl _) _ _ hw ls hl
    · refine lv_tableIn (tgt := 149) hx hb dX2_about_13 (by rw [c13]; decide) (by rw [c13]; decide) (off := 136) (by rw [c13]; rfl) (by decide) ?_
      refine lv_iconst (v := 0) hx hb dX2_about_149 (by decide) ?_
      refine lv_istore (lv' := [(4, .int 0), (3, .int 0), (0, .ref mm), (1, .int (nI T)), (2, .int what)]) hx hb dX2_about_150 hl (by decide) rfl (fun ls hl => ?_)
      have b152 : ∀ (fuel : Nat) (k : Nat), nk - k < fuel → (k ≤ nk) → (pm_cnt (fun k => decide (hT (kh k) = T)) k ≤ k) → ∀ (H : Heap) (locs : List Loc), tf_Wd S0 D (tf_A G sz) s.heap G H locs → ∀ (ls : Array Slot), lv_has ls 5 [(4, .int (nI k)), (3, .int (nI (pm_cnt (fun k => decide (hT (kh k) = T)) k))), (0, .ref mm), (1, .int (nI T)), (2, .int what)] → W p l e (tf_rm 3 0 0) s m ([.ref mm, .int t, .int what] : List Value).toArray below meth c H locs 0 0 (MQ below (tf_Qi S0 D sz G (fun r G1 => r = pm_about ar hT kh nT nh nd nk t what ∧ G1 = G)) ([.ref mm, .int t, .int what] : List Value).toArray s 0 0 (tf_A G sz)) (F0 m 152 ls []) := by
        intro fuel152
        induction fuel152 with
        | zero => intro k hfu152; exact absurd hfu152 (Nat.not_lt_zero _)
        | succ fuel152 ih152 =>
          intro k hfu152 hk hcl H locs hw ls hl
          refine lv_iload hx hb dX2_about_152 (lv_at hl 0 rfl) ?_
          refine lv_aload_n hx hb dX2_about_154 rfl (lv_at hl 2 rfl) ?_
          refine gf_X2_148 C hw hm.1 (v := .int (nI nk)) (by rw [← hk31]; rfl) dX2_about_155 ?_
          refine tf_icmp_geN hx hb k nk rfl rfl (tgt := 191) dX2_about_158 (by decide) (by omega) (by omega) (fun c158 => ?_) (fun c158 => ?_)
          · refine lv_iload_n hx hb dX2_about_191 rfl (lv_at hl 1 rfl) ?_
            refine tf_reti C hw hr hlk dX2_about_192 (by first | exact Nat.le_of_ble_eq_true rfl | omega) (by first | exact Nat.le_of_ble_eq_true rfl | omega) ?_
            refine ⟨?_, rfl⟩
            simp only [pm_about, c_t, hTc, if_true]
            rw [show nk = k by omega]
            rw [c13]
            rfl
          · have h33k := h33 k (by omega)
            have h6k := h6 (kh k) h33k.2
            refine lv_iload_n hx hb dX2_about_161 rfl (lv_at hl 1 rfl) ?_
            refine lv_aload_n hx hb dX2_about_162 rfl (lv_at hl 2 rfl) ?_
            refine gf_X2_16 C hw hm.1 (v := .ref (ad 6)) rfl dX2_about_163 ?_
            refine lv_aload_n hx hb dX2_about_166 rfl (lv_at hl 2 rfl) ?_
            refine gf_X2_79 C hw hm.1 (v := .ref (ad 33)) rfl dX2_about_167 ?_
            refine lv_iload hx hb dX2_about_170 (lv_at hl 0 rfl) ?_
            refine mo_ald (v := nI (kh k)) C hw hm 33 (by decide) (by decide) k rfl (show k < 240 by omega) (h33 k (by omega)).1 dX2_about_172 ?_
            refine mo_ald (v := nI (hT (kh k))) C hw hm 6 (by decide) (by decide) (kh k) rfl (show kh k < 240 by omega) (h6 (kh k) (by omega)).1 dX2_about_173 ?_
            refine lv_iload_n hx hb dX2_about_174 rfl (lv_at hl 3 rfl) ?_
            refine tf_icmp_neN hx hb (hT (kh k)) T rfl rfl (tgt := 182) dX2_about_175 (by decide) (by omega) (by omega) (fun c175 => ?_) (fun c175 => ?_)
            · refine lv_iconst (v := 0) hx hb dX2_about_182 (by decide) ?_
              refine tf_iaddN hx hb (pm_cnt (fun k => decide (hT (kh k) = T)) k) 0 rfl rfl dX2_about_183 ?_
              refine lv_istore_n (lv' := [(3, .int (nI ((pm_cnt (fun k => decide (hT (kh k) = T)) k) + 0))), (4, .int (nI k)), (0, .ref mm), (1, .int (nI T)), (2, .int what)]) hx hb dX2_about_184 rfl hl (by decide) rfl (fun ls hl => ?_)
              rw [show (pm_cnt (fun k => decide (hT (kh k) = T)) k) + 0 = pm_cnt (fun k => decide (hT (kh k) = T)) (k + 1) from pm_cnt_f (p := fun k => decide (hT (kh k) = T)) (decide_eq_false c175)] at hl
              refine lv_iinc (v := nI (k + 1)) (lv' := [(4, .int (nI (k + 1))), (3, .int (nI (pm_cnt (fun k => decide (hT (kh k) = T)) (k + 1)))), (0, .ref mm), (1, .int (nI T)), (2, .int what)]) hx hb dX2_about_185 hl (k := 1) rfl (nI_1 _) (by decide) rfl (fun ls hl => ?_)
              refine lv_goto (tgt := 152) hx hb dX2_about_188 (by decide) ?_
              exact ih152 (k + 1) (by omega) (by omega) (pm_cnt_le _ _) _ _ hw ls hl
            · refine lv_iconst (v := 1) hx hb dX2_about_178 (by decide) ?_
              refine lv_goto (tgt := 183) hx hb dX2_about_179 (by decide) ?_
              refine tf_iaddN hx hb (pm_cnt (fun k => decide (hT (kh k) = T)) k) 1 rfl rfl dX2_about_183 ?_
              refine lv_istore_n (lv' := [(3, .int (nI ((pm_cnt (fun k => decide (hT (kh k) = T)) k) + 1))), (4, .int (nI k)), (0, .ref mm), (1, .int (nI T)), (2, .int what)]) hx hb dX2_about_184 rfl hl (by decide) rfl (fun ls hl => ?_)
              rw [show (pm_cnt (fun k => decide (hT (kh k) = T)) k) + 1 = pm_cnt (fun k => decide (hT (kh k) = T)) (k + 1) from pm_cnt_t (p := fun k => decide (hT (kh k) = T)) (decide_eq_true c175)] at hl
              refine lv_iinc (v := nI (k + 1)) (lv' := [(4, .int (nI (k + 1))), (3, .int (nI (pm_cnt (fun k => decide (hT (kh k) = T)) (k + 1)))), (0, .ref mm), (1, .int (nI T)), (2, .int what)]) hx hb dX2_about_185 hl (k := 1) rfl (nI_1 _) (by decide) rfl (fun ls hl => ?_)
              refine lv_goto (tgt := 152) hx hb dX2_about_188 (by decide) ?_
              exact ih152 (k + 1) (by omega) (by omega) (pm_cnt_le _ _) _ _ hw ls hl
      exact b152 (nk + 1) 0 (by omega) (by omega) (by exact Nat.le_refl _) _ _ hw ls hl
    · refine lv_tableOut (tgt := 193) hx hb dX2_about_13 c13 (by decide) ?_
      refine lv_bipush (v := (-2)) hx hb dX2_about_193 (by decide) ?_
      refine tf_reti C hw hr hlk dX2_about_195 (by first | exact Nat.le_of_ble_eq_true rfl | omega) (by first | exact Nat.le_of_ble_eq_true rfl | omega) ?_
      refine ⟨?_, rfl⟩
      simp only [pm_about, c_t, hTc, if_true]
      have hne2 : ∀ j : Nat, j ≤ 4 → what ≠ nI j := fun j hj h => by rw [h, nI_toInt (by omega)] at c13; omega
      rw [if_neg (show ¬ what = 0 from hne2 0 (by decide)), if_neg (show ¬ what = 1 from hne2 1 (by decide)), if_neg (show ¬ what = 2 from hne2 2 (by decide)), if_neg (show ¬ what = 3 from hne2 3 (by decide)), if_neg (show ¬ what = 4 from hne2 4 (by decide))]
  · replace c5 := pt_b0 c5
    refine lv_iconst (v := (-1)) hx hb dX2_about_8 (by decide) ?_
    refine tf_reti C hw hr hlk dX2_about_9 (by first | exact Nat.le_of_ble_eq_true rfl | omega) (by first | exact Nat.le_of_ble_eq_true rfl | omega) ?_
    refine ⟨?_, rfl⟩
    rw [hk2] at c5
    simp [pm_about, c5]

/-- the first of n numbers with p -/
def pm_first (p : Nat → Bool) : Nat → Option Nat
  | 0 => none
  | k + 1 => match pm_first p k with
    | some e => some e
    | none => if p k then some k else none
theorem pm_first_t {p : Nat → Bool} {k : Nat} (h0 : pm_first p k = none) (h : p k = true) : ∀ d, pm_first p (k + 1 + d) = some k := by
  intro d
  induction d with
  | zero => simp [pm_first, h0, h]
  | succ d ih => show (match pm_first p (k + 1 + d) with | some e => some e | none => _) = some k; rw [ih]
theorem pm_first_f {p : Nat → Bool} {k : Nat} (h0 : pm_first p k = none) (h : p k = false) : pm_first p (k + 1) = none := by simp [pm_first, h0, h]
def pm_any (p : Nat → Bool) : Nat → Bool
  | 0 => false
  | k + 1 => pm_any p k || p k
theorem pm_any_t {p : Nat → Bool} {k : Nat} (h : p k = true) : ∀ d, pm_any p (k + 1 + d) = true := by
  intro d
  induction d with
  | zero => simp [pm_any, h]
  | succ d ih => show (pm_any p (k + 1 + d) || _) = true; rw [ih]; rfl
/-- the kept event e has the hit h -/
def pm_has (kf kh : Nat → Nat) (h e : Nat) : Bool := pm_any (fun j => decide (kh (kf e + j) = h)) (kf (e + 1) - kf e)
def pm_opt (o : Option Nat) : Int32 := match o with
  | some e => nI e
  | none => -9
def pm_struck (ar : Nat → Nat → Int32) (hT kf kh : Nat → Nat) (nh nc nd ne : Nat) (h what : Int32) : Int32 := if pm_of h (nI nh) then (if what = 0 then nI (hT h.toNatClampNeg) else if what = 1 then ar 7 h.toNatClampNeg else if what = 2 then pm_rightL ar h.toNatClampNeg nc else if what = 3 then pm_kind ar h.toNatClampNeg else if what = 4 then pm_amt ar h.toNatClampNeg else if what = 5 then pt_b (pm_look ar nd h.toNatClampNeg) else if what = 6 then pm_opt (pm_first (pm_has kf kh h.toNatClampNeg) ne) else -2) else -1

set_option maxHeartbeats 4000000 in
set_option maxRecDepth 100000 in
theorem metX2_struck {l : Launch} {S0 : State} {D : va_G} {dA : Nat → ClassId} (hB : tf_B S0 D dA) {sz : Nat} {G : tf_Pic} {mm : Nat} {ad : Nat → Nat} {iv : Nat → Int32} {ar : Nat → Nat → Int32} {fr : Nat → Int64} (hm : mo_W dA mm ad iv ar fr G) {nT nh nc nd ne nk : Nat} {hT kf kh : Nat → Nat} (hI : mo_I iv ar nT nh nc nd ne nk hT kf kh) (h what : Int32) : Met l yX2_struck (ws_ yX2_struck cX2_struck 5 (some .int)) (tf_rm 3 0 0) (tf_Pc S0 D sz G [.ref mm, .int h, .int what]) (tf_Qi S0 D sz G (fun r G1 => r = pm_struck ar hT kf kh nh nc nd ne h what ∧ G1 = G)) 0 0 (tf_A G sz) := by
  refine Met.ofW (cc := cX2_struck) (maxL := 5) (ret := (some .int)) (by decide) rfl ?_
  intro p e s m args below meth c s₁ B hml hv
  obtain ⟨C, hw, hr, hlk, hin, hargs⟩ := tf_enter hB B hml hv
  subst hargs
  have C : tf_C p s m ([.ref mm, .int h, .int what] : List Value).toArray c cX2_struck 5 RX2 S0 D dA := C
  have hx := C.hx
  have hb := C.hb
  change W p l e (tf_rm 3 0 0) s m ([.ref mm, .int h, .int what] : List Value).toArray below meth c s.heap [] 0 0 (MQ below (tf_Qi S0 D sz G (fun r G1 => r = pm_struck ar hT kf kh nh nc nd ne h what ∧ G1 = G)) ([.ref mm, .int h, .int what] : List Value).toArray s 0 0 (tf_A G sz)) (entryFrame m ([.ref mm, .int h, .int what] : List Value).toArray 5)
  have hI0 := hI
  obtain ⟨hk2, hnT, hk5, hnh, h6, hk10, hnc, hk14, hnd, hk30, hne, hk31, hnk, h32, hkf0, hkfn, hkfs, h33⟩ := hI
  refine tf_start [.ref mm, .int h, .int what] (Nat.le_of_ble_eq_true rfl) (fun ls hl => ?_)
  have hl : lv_has ls 5 [(0, .ref mm), (1, .int h), (2, .int what)] := hl
  refine lv_aload_n hx hb dX2_struck_0 rfl (lv_at hl 0 rfl) ?_
  refine lv_iload_n hx hb dX2_struck_1 rfl (lv_at hl 1 rfl) ?_
  refine tf_goi (tf_V (n := 1) C hw hm.1 rfl [.int h] (metX2_isHit hB hm h) (lw_V q1104 q1106 qs25 q45 q1107) rfl ⟨by decide, by decide, by decide +kernel⟩ ⟨rfl, rfl, Nat.le_of_ble_eq_true rfl, Nat.le_of_ble_eq_true rfl, (by first | exact Nat.le_of_ble_eq_true rfl | (show _ ≤ 0; omega)), (by first | exact Nat.le_of_ble_eq_true rfl | (show _ ≤ 0; omega))⟩ rfl hl rfl (Nat.le_of_ble_eq_true rfl) dX2_struck_2) hw (fun r1 G1 H locs hp1 hw => ?_)
  obtain ⟨hre, hGe⟩ := hp1
  have hre : r1 = pt_b (pm_of h (iv 5)) := hre
  obtain rfl := hre.symm
  obtain rfl := hGe.symm
  refine lv_if_ne (tgt := 10) hx hb dX2_struck_5 (by decide) (fun c5 => ?_) (fun c5 => ?_)
  · replace c5 := pt_b1 c5
    have c_h := c5
    rw [hk5] at c_h
    obtain ⟨K, hKb, hKe, hKc⟩ := pm_clof (by omega) c_h
    rw [hKe] at hl
    have h6K := h6 K hKb
    refine lv_iload_n hx hb dX2_struck_10 rfl (lv_at hl 2 rfl) ?_
    rcases tf_sw7 what with c11 | c11 | c11 | c11 | c11 | c11 | c11 | c11
    · refine lv_tableIn (tgt := 52) hx hb dX2_struck_11 (by rw [c11]; decide) (by rw [c11]; decide) (off := 41) (by rw [c11]; rfl) (by decide) ?_
      refine lv_aload_n hx hb dX2_struck_52 rfl (lv_at hl 0 rfl) ?_
      refine gf_X2_16 C hw hm.1 (v := .ref (ad 6)) rfl dX2_struck_53 ?_
      refine lv_iload_n hx hb dX2_struck_56 rfl (lv_at hl 1 rfl) ?_
      refine mo_ald (v := nI (hT K)) C hw hm 6 (by decide) (by decide) K rfl (show K < 240 by omega) (h6 K (by omega)).1 dX2_struck_57 ?_
      refine tf_reti C hw hr hlk dX2_struck_58 (by first | exact Nat.le_of_ble_eq_true rfl | omega) (by first | exact Nat.le_of_ble_eq_true rfl | omega) ?_
      refine ⟨?_, rfl⟩
      simp only [pm_struck, c_h, hKc, if_true]
      rw [c11]
      rfl
    · refine lv_tableIn (tgt := 59) hx hb dX2_struck_11 (by rw [c11]; decide) (by rw [c11]; decide) (off := 48) (by rw [c11]; rfl) (by decide) ?_
      refine lv_aload_n hx hb dX2_struck_59 rfl (lv_at hl 0 rfl) ?_
      refine gf_X2_19 C hw hm.1 (v := .ref (ad 7)) rfl dX2_struck_60 ?_
      refine lv_iload_n hx hb dX2_struck_63 rfl (lv_at hl 1 rfl) ?_
      refine mo_ald (v := ar 7 K) C hw hm 7 (by decide) (by decide) K rfl (show K < 240 by omega) rfl dX2_struck_64 ?_
      refine tf_reti C hw hr hlk dX2_struck_65 (by first | exact Nat.le_of_ble_eq_true rfl | omega) (by first | exact Nat.le_of_ble_eq_true rfl | omega) ?_
      refine ⟨?_, rfl⟩
      simp only [pm_struck, c_h, hKc, if_true]
      rw [c11]
      rfl
    · refine lv_tableIn (tgt := 66) hx hb dX2_struck_11 (by rw [c11]; decide) (by rw [c11]; decide) (off := 55) (by rw [c11]; rfl) (by decide) ?_
      refine lv_aload_n hx hb dX2_struck_66 rfl (lv_at hl 0 rfl) ?_
      refine lv_iload_n hx hb dX2_struck_67 rfl (lv_at hl 1 rfl) ?_
      refine tf_goi (tf_V (n := 1) C hw hm.1 rfl [.int (nI K)] (metX2_rightTime hB hm (h := K) (by omega) hk10 hnc) (lw_V q1108 q1110 qs26 q45 q1111) rfl ⟨by decide, by decide, by decide +kernel⟩ ⟨rfl, rfl, Nat.le_of_ble_eq_true rfl, Nat.le_of_ble_eq_true rfl, (by first | exact Nat.le_of_ble_eq_true rfl | (show _ ≤ 0; omega)), (by first | exact Nat.le_of_ble_eq_true rfl | (show _ ≤ 0; omega))⟩ rfl hl rfl (Nat.le_of_ble_eq_true rfl) dX2_struck_68) hw (fun r2 G2 H locs hp2 hw => ?_)
      obtain ⟨hre, hGe⟩ := hp2
      have hre : r2 = pm_rightL ar K nc := hre
      obtain rfl := hre.symm
      obtain rfl := hGe.symm
      refine tf_reti C hw hr hlk dX2_struck_71 (by first | exact Nat.le_of_ble_eq_true rfl | omega) (by first | exact Nat.le_of_ble_eq_true rfl | omega) ?_
      refine ⟨?_, rfl⟩
      simp only [pm_struck, c_h, hKc, if_true]
      rw [c11]
      rfl
    · refine lv_tableIn (tgt := 72) hx hb dX2_struck_11 (by rw [c11]; decide) (by rw [c11]; decide) (off := 61) (by rw [c11]; rfl) (by decide) ?_
      refine lv_aload_n hx hb dX2_struck_72 rfl (lv_at hl 0 rfl) ?_
      refine lv_iload_n hx hb dX2_struck_73 rfl (lv_at hl 1 rfl) ?_
      refine tf_goi (tf_V (n := 1) C hw hm.1 rfl [.int (nI K)] (metX2_kindOf hB hm (h := K) (by omega)) (lw_V q1112 q1114 qs27 q45 q1115) rfl ⟨by decide, by decide, by decide +kernel⟩ ⟨rfl, rfl, Nat.le_of_ble_eq_true rfl, Nat.le_of_ble_eq_true rfl, (by first | exact Nat.le_of_ble_eq_true rfl | (show _ ≤ 0; omega)), (by first | exact Nat.le_of_ble_eq_true rfl | (show _ ≤ 0; omega))⟩ rfl hl rfl (Nat.le_of_ble_eq_true rfl) dX2_struck_74) hw (fun r3 G3 H locs hp3 hw => ?_)
      obtain ⟨hre, hGe⟩ := hp3
      have hre : r3 = pm_kind ar K := hre
      obtain rfl := hre.symm
      obtain rfl := hGe.symm
      refine tf_reti C hw hr hlk dX2_struck_77 (by first | exact Nat.le_of_ble_eq_true rfl | omega) (by first | exact Nat.le_of_ble_eq_true rfl | omega) ?_
      refine ⟨?_, rfl⟩
      simp only [pm_struck, c_h, hKc, if_true]
      rw [c11]
      rfl
    · refine lv_tableIn (tgt := 78) hx hb dX2_struck_11 (by rw [c11]; decide) (by rw [c11]; decide) (off := 67) (by rw [c11]; rfl) (by decide) ?_
      refine lv_aload_n hx hb dX2_struck_78 rfl (lv_at hl 0 rfl) ?_
      refine lv_iload_n hx hb dX2_struck_79 rfl (lv_at hl 1 rfl) ?_
      refine tf_goi (tf_V (n := 1) C hw hm.1 rfl [.int (nI K)] (metX2_amountOf hB hm (h := K) (by omega)) (lw_V q1116 q1118 qs28 q45 q1119) rfl ⟨by decide, by decide, by decide +kernel⟩ ⟨rfl, rfl, Nat.le_of_ble_eq_true rfl, Nat.le_of_ble_eq_true rfl, (by first | exact Nat.le_of_ble_eq_true rfl | (show _ ≤ 0; omega)), (by first | exact Nat.le_of_ble_eq_true rfl | (show _ ≤ 0; omega))⟩ rfl hl rfl (Nat.le_of_ble_eq_true rfl) dX2_struck_80) hw (fun r4 G4 H locs hp4 hw => ?_)
      obtain ⟨hre, hGe⟩ := hp4
      have hre : r4 = pm_amt ar K := hre
      obtain rfl := hre.symm
      obtain rfl := hGe.symm
      refine tf_reti C hw hr hlk dX2_struck_83 (by first | exact Nat.le_of_ble_eq_true rfl | omega) (by first | exact Nat.le_of_ble_eq_true rfl | omega) ?_
      refine ⟨?_, rfl⟩
      simp only [pm_struck, c_h, hKc, if_true]
      rw [c11]
      rfl
    · refine lv_tableIn (tgt := 84) hx hb dX2_struck_11 (by rw [c11]; decide) (by rw [c11]; decide) (off := 73) (by rw [c11]; rfl) (by decide) ?_
      refine lv_aload_n hx hb dX2_struck_84 rfl (lv_at hl 0 rfl) ?_
      refine lv_iload_n hx hb dX2_struck_85 rfl (lv_at hl 1 rfl) ?_
      refine tf_goi (tf_V (n := 1) C hw hm.1 rfl [.int (nI K)] (metX2_isLooked hB hm (h := K) (by omega) hk14 hnd) (lw_V q1092 q1094 qs23 q45 q1095) rfl ⟨by decide, by decide, by decide +kernel⟩ ⟨rfl, rfl, Nat.le_of_ble_eq_true rfl, Nat.le_of_ble_eq_true rfl, (by first | exact Nat.le_of_ble_eq_true rfl | (show _ ≤ 0; omega)), (by first | exact Nat.le_of_ble_eq_true rfl | (show _ ≤ 0; omega))⟩ rfl hl rfl (Nat.le_of_ble_eq_true rfl) dX2_struck_86) hw (fun r5 G5 H locs hp5 hw => ?_)
      obtain ⟨hre, hGe⟩ := hp5
      have hre : r5 = pt_b (pm_look ar nd K) := hre
      obtain rfl := hre.symm
      obtain rfl := hGe.symm
      refine lv_if_eq (tgt := 96) hx hb dX2_struck_89 (by decide) (fun c89 => ?_) (fun c89 => ?_)
      · replace c89 := pt_b0 c89
        refine lv_iconst (v := 0) hx hb dX2_struck_96 (by decide) ?_
        refine tf_reti C hw hr hlk dX2_struck_97 (by first | exact Nat.le_of_ble_eq_true rfl | omega) (by first | exact Nat.le_of_ble_eq_true rfl | omega) ?_
        refine ⟨?_, rfl⟩
        simp only [pm_struck, c_h, hKc, if_true]
        rw [c89]
        rw [c11]
        rfl
      · replace c89 := pt_b1 c89
        refine lv_iconst (v := 1) hx hb dX2_struck_92 (by decide) ?_
        refine lv_goto (tgt := 97) hx hb dX2_struck_93 (by decide) ?_
        refine tf_reti C hw hr hlk dX2_struck_97 (by first | exact Nat.le_of_ble_eq_true rfl | omega) (by first | exact Nat.le_of_ble_eq_true rfl | omega) ?_
        refine ⟨?_, rfl⟩
        simp only [pm_struck, c_h, hKc, if_true]
        rw [c89]
        rw [c11]
        rfl
    · refine lv_tableIn (tgt := 98) hx hb dX2_struck_11 (by rw [c11]; decide) (by rw [c11]; decide) (off := 87) (by rw [c11]; rfl) (by decide) ?_
      refine lv_iconst (v := 0) hx hb dX2_struck_98 (by decide) ?_
      refine lv_istore_n (lv' := [(3, .int 0), (0, .ref mm), (1, .int (nI K)), (2, .int what)]) hx hb dX2_struck_99 rfl hl (by decide) rfl (fun ls hl => ?_)
      have b100 : ∀ (fuel : Nat) (i : Nat), ne - i < fuel → (i ≤ ne) → (pm_first (pm_has kf kh K) i = none) → ∀ (H : Heap) (locs : List Loc), tf_Wd S0 D (tf_A G sz) s.heap G H locs → ∀ (ls : Array Slot), lv_has ls 5 [(3, .int (nI i)), (0, .ref mm), (1, .int (nI K)), (2, .int what)] → W p l e (tf_rm 3 0 0) s m ([.ref mm, .int h, .int what] : List Value).toArray below meth c H locs 0 0 (MQ below (tf_Qi S0 D sz G (fun r G1 => r = pm_struck ar hT kf kh nh nc nd ne h what ∧ G1 = G)) ([.ref mm, .int h, .int what] : List Value).toArray s 0 0 (tf_A G sz)) (F0 m 100 ls []) := by
        intro fuel100
        induction fuel100 with
        | zero => intro i hfu100; exact absurd hfu100 (Nat.not_lt_zero _)
        | succ fuel100 ih100 =>
          intro i hfu100 hi he0 H locs hw ls hl
          refine lv_iload_n hx hb dX2_struck_100 rfl (lv_at hl 0 rfl) ?_
          refine lv_aload_n hx hb dX2_struck_101 rfl (lv_at hl 1 rfl) ?_
          refine gf_X2_160 C hw hm.1 (v := .int (nI ne)) (by rw [← hk30]; rfl) dX2_struck_102 ?_
          refine tf_icmp_geN hx hb i ne rfl rfl (tgt := 154) dX2_struck_105 (by decide) (by omega) (by omega) (fun c105 => ?_) (fun c105 => ?_)
          · refine lv_bipush (v := (-9)) hx hb dX2_struck_154 (by decide) ?_
            refine tf_reti C hw hr hlk dX2_struck_156 (by first | exact Nat.le_of_ble_eq_true rfl | omega) (by first | exact Nat.le_of_ble_eq_true rfl | omega) ?_
            refine ⟨?_, rfl⟩
            simp only [pm_struck, c_h, hKc, if_true]
            rw [show ne = i by omega, he0, c11]
            rfl
          · have hi1 := hkfs i (by omega)
            have hi2 := mo_le hkfs (e := i + 1) (by omega)
            refine lv_aload_n hx hb dX2_struck_108 rfl (lv_at hl 1 rfl) ?_
            refine gf_X2_76 C hw hm.1 (v := .ref (ad 32)) rfl dX2_struck_109 ?_
            refine lv_iload_n hx hb dX2_struck_112 rfl (lv_at hl 0 rfl) ?_
            refine mo_ald (v := nI (kf i)) C hw hm 32 (by decide) (by decide) i rfl (show i < 241 by omega) (h32 i (by omega)) dX2_struck_113 ?_
            refine lv_istore (lv' := [(4, .int (nI (kf i))), (3, .int (nI i)), (0, .ref mm), (1, .int (nI K)), (2, .int what)]) hx hb dX2_struck_114 hl (by decide) rfl (fun ls hl => ?_)
            have b116 : ∀ (fuel : Nat) (j : Nat), kf (i + 1) - kf i - j < fuel → (kf i + j ≤ kf (i + 1)) → (pm_any (fun j => decide (kh (kf i + j) = K)) j = false) → ∀ (H : Heap) (locs : List Loc), tf_Wd S0 D (tf_A G sz) s.heap G H locs → ∀ (ls : Array Slot), lv_has ls 5 [(4, .int (nI (kf i + j))), (3, .int (nI i)), (0, .ref mm), (1, .int (nI K)), (2, .int what)] → W p l e (tf_rm 3 0 0) s m ([.ref mm, .int h, .int what] : List Value).toArray below meth c H locs 0 0 (MQ below (tf_Qi S0 D sz G (fun r G1 => r = pm_struck ar hT kf kh nh nc nd ne h what ∧ G1 = G)) ([.ref mm, .int h, .int what] : List Value).toArray s 0 0 (tf_A G sz)) (F0 m 116 ls []) := by
              intro fuel116
              induction fuel116 with
              | zero => intro j hfu116; exact absurd hfu116 (Nat.not_lt_zero _)
              | succ fuel116 ih116 =>
                intro j hfu116 hj hj0 H locs hw ls hl
                refine lv_iload hx hb dX2_struck_116 (lv_at hl 0 rfl) ?_
                refine lv_aload_n hx hb dX2_struck_118 rfl (lv_at hl 2 rfl) ?_
                refine gf_X2_76 C hw hm.1 (v := .ref (ad 32)) rfl dX2_struck_119 ?_
                refine lv_iload_n hx hb dX2_struck_122 rfl (lv_at hl 1 rfl) ?_
                refine lv_iconst (v := 1) hx hb dX2_struck_123 (by decide) ?_
                refine tf_iaddN hx hb i 1 rfl rfl dX2_struck_124 ?_
                refine mo_ald (v := nI (kf (i + 1))) C hw hm 32 (by decide) (by decide) (i + 1) rfl (show i + 1 < 241 by omega) (h32 (i + 1) (by omega)) dX2_struck_125 ?_
                refine tf_icmp_geN hx hb (kf i + j) (kf (i + 1)) rfl rfl (tgt := 148) dX2_struck_126 (by decide) (by omega) (by omega) (fun c126 => ?_) (fun c126 => ?_)
                · refine lv_iinc (v := nI (i + 1)) (lv' := [(3, .int (nI (i + 1))), (4, .int (nI (kf i + j))), (0, .ref mm), (1, .int (nI K)), (2, .int what)]) hx hb dX2_struck_148 hl (k := 1) rfl (nI_1 _) (by decide) rfl (fun ls hl => ?_)
                  refine lv_goto (tgt := 100) hx hb dX2_struck_151 (by decide) ?_
                  exact ih100 (i + 1) (by omega) (by omega) (pm_first_f he0 (by show pm_any _ _ = false; rw [show kf (i + 1) - kf i = j by omega]; exact hj0)) _ _ hw ls (lv_sub hl [0, 2, 3, 4] rfl)
                · have h33j := h33 (kf i + j) (by omega)
                  refine lv_aload_n hx hb dX2_struck_129 rfl (lv_at hl 2 rfl) ?_
                  refine gf_X2_79 C hw hm.1 (v := .ref (ad 33)) rfl dX2_struck_130 ?_
                  refine lv_iload hx hb dX2_struck_133 (lv_at hl 0 rfl) ?_
                  refine mo_ald (v := nI (kh (kf i + j))) C hw hm 33 (by decide) (by decide) (kf i + j) rfl (show kf i + j < 240 by omega) (h33 (kf i + j) (by omega)).1 dX2_struck_135 ?_
                  refine lv_iload_n hx hb dX2_struck_136 rfl (lv_at hl 3 rfl) ?_
                  refine tf_icmp_neN hx hb (kh (kf i + j)) K rfl rfl (tgt := 142) dX2_struck_137 (by decide) (by omega) (by omega) (fun c137 => ?_) (fun c137 => ?_)
                  · refine lv_iinc (v := nI (kf i + j + 1)) (lv' := [(4, .int (nI (kf i + j + 1))), (3, .int (nI i)), (0, .ref mm), (1, .int (nI K)), (2, .int what)]) hx hb dX2_struck_142 hl (k := 0) rfl (nI_1 _) (by decide) rfl (fun ls hl => ?_)
                    refine lv_goto (tgt := 116) hx hb dX2_struck_145 (by decide) ?_
                    exact ih116 (j + 1) (by omega) (by omega) (by show (pm_any _ j || _) = false; rw [hj0]; exact decide_eq_false c137) _ _ hw ls hl
                  · refine lv_iload_n hx hb dX2_struck_140 rfl (lv_at hl 1 rfl) ?_
                    refine tf_reti C hw hr hlk dX2_struck_141 (by first | exact Nat.le_of_ble_eq_true rfl | omega) (by first | exact Nat.le_of_ble_eq_true rfl | omega) ?_
                    refine ⟨?_, rfl⟩
                    simp only [pm_struck, c_h, hKc, if_true]
                    have hh : pm_has kf kh K i = true := by have hz := pm_any_t (p := fun j => decide (kh (kf i + j) = K)) (decide_eq_true c137) (kf (i + 1) - kf i - (j + 1)); rw [show j + 1 + (kf (i + 1) - kf i - (j + 1)) = kf (i + 1) - kf i by omega] at hz; exact hz
                    have hz := pm_first_t he0 hh (ne - (i + 1))
                    rw [show i + 1 + (ne - (i + 1)) = ne by omega] at hz
                    rw [hz, c11]
                    rfl
            exact b116 (kf (i + 1) - kf i + 1) 0 (by omega) (by omega) rfl _ _ hw ls hl
      exact b100 (ne + 1) 0 (by omega) (by omega) rfl _ _ hw ls hl
    · refine lv_tableOut (tgt := 157) hx hb dX2_struck_11 c11 (by decide) ?_
      refine lv_bipush (v := (-2)) hx hb dX2_struck_157 (by decide) ?_
      refine tf_reti C hw hr hlk dX2_struck_159 (by first | exact Nat.le_of_ble_eq_true rfl | omega) (by first | exact Nat.le_of_ble_eq_true rfl | omega) ?_
      refine ⟨?_, rfl⟩
      simp only [pm_struck, c_h, hKc, if_true]
      have hne2 : ∀ j : Nat, j ≤ 6 → what ≠ nI j := fun j hj h => by rw [h, nI_toInt (by omega)] at c11; omega
      rw [if_neg (show ¬ what = 0 from hne2 0 (by decide)), if_neg (show ¬ what = 1 from hne2 1 (by decide)), if_neg (show ¬ what = 2 from hne2 2 (by decide)), if_neg (show ¬ what = 3 from hne2 3 (by decide)), if_neg (show ¬ what = 4 from hne2 4 (by decide)), if_neg (show ¬ what = 5 from hne2 5 (by decide)), if_neg (show ¬ what = 6 from hne2 6 (by decide))]
  · replace c5 := pt_b0 c5
    refine lv_iconst (v := (-1)) hx hb dX2_struck_8 (by decide) ?_
    refine tf_reti C hw hr hlk dX2_struck_9 (by first | exact Nat.le_of_ble_eq_true rfl | omega) (by first | exact Nat.le_of_ble_eq_true rfl | omega) ?_
    refine ⟨?_, rfl⟩
    rw [hk5] at c5
    simp [pm_struck, c5]

/-- four cells from p on: may they be a hit; the first of k that may not -/
def pm_badL (iv : Nat → Int32) (ar : Nat → Nat → Int32) (q : Nat) : Nat → Int32
  | 0 => 0
  | k + 1 => if pm_badL iv ar q k = 0 then pm_against (iv 2) (ar 20 (q + 4 * k)) (ar 20 (q + 4 * k + 1)) (ar 20 (q + 4 * k + 2)) (ar 20 (q + 4 * k + 3)) else pm_badL iv ar q k
theorem pm_bad_t {iv : Nat → Int32} {ar : Nat → Nat → Int32} {q k : Nat} {v : Int32} (h : pm_badL iv ar q k = v) (hv : ¬ v = 0) : ∀ d, pm_badL iv ar q (k + d) = v := by
  intro d
  induction d with
  | zero => exact h
  | succ d ih => show (if pm_badL iv ar q (k + d) = 0 then _ else pm_badL iv ar q (k + d)) = v; rw [ih, if_neg hv]
/-- the arrays behind k new hits out of the cells from q on -/
def pm_addsL (ar : Nat → Nat → Int32) (q n : Nat) : Nat → Nat → Nat → Int32
  | 0 => ar
  | k + 1 => pm_addar (pm_addsL ar q n k) (n + k) (ar 20 (q + 4 * k)) (ar 20 (q + 4 * k + 1)) (ar 20 (q + 4 * k + 2)) (ar 20 (q + 4 * k + 3))
theorem pm_adds20 (ar : Nat → Nat → Int32) (q n : Nat) : ∀ k, pm_addsL ar q n k 20 = ar 20 := by
  intro k
  induction k with
  | zero => rfl
  | succ k ih => exact ih
theorem pm_fit {n : Int32} {s I : Nat} (hs : s ≤ 40) (hI : I ≤ s) (h0 : 0 ≤ n) (h : 4 * n.toInt64 ≤ (nI s - nI I).toInt64) : ∃ N : Nat, 4 * N ≤ s - I ∧ n = nI N ∧ n.toNatClampNeg = N := by
  obtain ⟨N, hN, e⟩ := nI_of (Int32.not_lt.mpr h0)
  subst e
  rw [pk_sub hI, nI_l (by omega), nI_l (by omega)] at h
  have e4 : (4 : Int64) = lN 4 := rfl
  rw [e4, lN_mul] at h
  have h2 := (pk_lLE (a := 4 * N) (b := s - I) (by omega) (by omega)).mp h
  exact ⟨N, h2, rfl, nI_clamp hN⟩
def pm_load (iv : Nat → Int32) (ar : Nat → Nat → Int32) (nh : Nat) (s lane i n : Int32) : Int32 × (Nat → Int32) × (Nat → Nat → Int32) :=
  if pm_in s 0 3 then (if pm_in lane 0 2 then (if ar 18 s.toNatClampNeg = -9 then (-11, va_up (va_up iv 0 0) 0 1, ar) else if ar 18 s.toNatClampNeg = lane then (if 0 ≤ n then (if i < 0 then (-13, va_up (va_up iv 0 0) 0 3, ar) else if ar 19 s.toNatClampNeg < i then (-13, va_up (va_up iv 0 0) 0 3, ar) else if 4 * n.toInt64 ≤ (ar 19 s.toNatClampNeg - i).toInt64 then
    (if pm_badL iv ar (40 * s.toNatClampNeg + i.toNatClampNeg) n.toNatClampNeg = 0 then (if nh + n.toNatClampNeg ≤ 240 then (nI (nh + n.toNatClampNeg), va_up (va_up iv 0 0) 5 (nI (nh + n.toNatClampNeg)), pm_addsL ar (40 * s.toNatClampNeg + i.toNatClampNeg) nh n.toNatClampNeg) else (-4, va_up iv 0 0, ar)) else (pm_badL iv ar (40 * s.toNatClampNeg + i.toNatClampNeg) n.toNatClampNeg, va_up iv 0 0, ar))
    else (-13, va_up (va_up iv 0 0) 0 3, ar)) else (-14, va_up (va_up iv 0 0) 0 4, ar)) else (-12, va_up (va_up iv 0 0) 0 2, ar)) else (-2, va_up iv 0 0, ar)) else (-1, va_up iv 0 0, ar)
theorem mo_eqi {dA : Nat → ClassId} {mm : Nat} {ad : Nat → Nat} {iv iv2 : Nat → Int32} {ar : Nat → Nat → Int32} {fr : Nat → Int64} {G : tf_Pic} (h : iv = iv2) (hm : mo_W dA mm ad iv ar fr G) : mo_W dA mm ad iv2 ar fr G := h ▸ hm
theorem va_up_owni (f : Nat → Int32) (k : Nat) {g : Int32} (h : g = f k) : f = va_up f k g := by
  subst h
  funext j
  by_cases e : j = k
  · rw [e, va_up_self]
  · rw [va_up_ne _ _ e]

set_option maxHeartbeats 4000000 in
set_option maxRecDepth 100000 in
theorem metX2_load {l : Launch} {S0 : State} {D : va_G} {dA : Nat → ClassId} (hB : tf_B S0 D dA) {sz : Nat} {G : tf_Pic} {mm : Nat} {ad : Nat → Nat} {iv : Nat → Int32} {ar : Nat → Nat → Int32} {fr : Nat → Int64} (hm : mo_W dA mm ad iv ar fr G) {nh : Nat} (hk5 : iv 5 = nI nh) (hnh : nh ≤ 240) {sl : Nat → Nat} (hsl : ∀ j, j < 4 → ar 19 j = nI (sl j) ∧ sl j ≤ 40) (s0 lane i n : Int32) : Met l yX2_load (ws_ yX2_load cX2_load 8 (some .int)) (tf_rm 3 0 0) (tf_Pc S0 D sz G [.ref mm, .int s0, .int lane, .int i, .int n]) (tf_Qi S0 D sz G (fun r G1 => ∃ iv1 ar1, (r, iv1, ar1) = pm_load iv ar nh s0 lane i n ∧ mo_W dA mm ad iv1 ar1 fr G1)) 0 0 (tf_A G sz) := by
  refine Met.ofW (cc := cX2_load) (maxL := 8) (ret := (some .int)) (by decide) rfl ?_
  intro p e s m args below meth c s₁ B hml hv
  obtain ⟨C, hw, hr, hlk, hin, hargs⟩ := tf_enter hB B hml hv
  subst hargs
  have C : tf_C p s m ([.ref mm, .int s0, .int lane, .int i, .int n] : List Value).toArray c cX2_load 8 RX2 S0 D dA := C
  have hx := C.hx
  have hb := C.hb
  change W p l e (tf_rm 3 0 0) s m ([.ref mm, .int s0, .int lane, .int i, .int n] : List Value).toArray below meth c s.heap [] 0 0 (MQ below (tf_Qi S0 D sz G (fun r G1 => ∃ iv1 ar1, (r, iv1, ar1) = pm_load iv ar nh s0 lane i n ∧ mo_W dA mm ad iv1 ar1 fr G1)) ([.ref mm, .int s0, .int lane, .int i, .int n] : List Value).toArray s 0 0 (tf_A G sz)) (entryFrame m ([.ref mm, .int s0, .int lane, .int i, .int n] : List Value).toArray 8)
  refine tf_start [.ref mm, .int s0, .int lane, .int i, .int n] (Nat.le_of_ble_eq_true rfl) (fun ls hl => ?_)
  have hl : lv_has ls 8 [(0, .ref mm), (1, .int s0), (2, .int lane), (3, .int i), (4, .int n)] := hl
  refine lv_aload_n hx hb dX2_load_0 rfl (lv_at hl 0 rfl) ?_
  refine lv_iconst (v := 0) hx hb dX2_load_1 (by decide) ?_
  refine pf_X2_98 C hw hm.1 0 (Nat.le_of_ble_eq_true rfl) dX2_load_2 (mo_put hm 0 (by decide) (fun G1 H locs hm hw => ?_))
  refine lv_iload_n hx hb dX2_load_5 rfl (lv_at hl 1 rfl) ?_
  refine lv_iconst (v := 0) hx hb dX2_load_6 (by decide) ?_
  refine lv_iconst (v := 3) hx hb dX2_load_7 (by decide) ?_
  refine tf_goi (tf_S (n := 3) C hw [.int s0, .int 0, .int 3] (metX2_within hB s0 0 3) (lw_S q1052 q1053 q45 q1054) ⟨by decide, by decide, by decide +kernel⟩ ⟨rfl, rfl, Nat.le_of_ble_eq_true rfl, Nat.le_of_ble_eq_true rfl, (by first | exact Nat.le_of_ble_eq_true rfl | (show _ ≤ 0; omega)), (by first | exact Nat.le_of_ble_eq_true rfl | (show _ ≤ 0; omega))⟩ rfl hl rfl (Nat.le_of_ble_eq_true rfl) dX2_load_8) hw (fun r2 G2 H locs hp2 hw => ?_)
  obtain ⟨hre, hGe⟩ := hp2
  have hre : r2 = pt_b (pm_in s0 0 3) := hre
  obtain rfl := hre.symm
  obtain rfl := hGe.symm
  refine lv_if_ne (tgt := 16) hx hb dX2_load_11 (by decide) (fun c11 => ?_) (fun c11 => ?_)
  · replace c11 := pt_b1 c11
    refine lv_iload_n hx hb dX2_load_16 rfl (lv_at hl 2 rfl) ?_
    refine lv_iconst (v := 0) hx hb dX2_load_17 (by decide) ?_
    refine lv_iconst (v := 2) hx hb dX2_load_18 (by decide) ?_
    refine tf_goi (tf_S (n := 3) C hw [.int lane, .int 0, .int 2] (metX2_within hB lane 0 2) (lw_S q1052 q1053 q45 q1054) ⟨by decide, by decide, by decide +kernel⟩ ⟨rfl, rfl, Nat.le_of_ble_eq_true rfl, Nat.le_of_ble_eq_true rfl, (by first | exact Nat.le_of_ble_eq_true rfl | (show _ ≤ 0; omega)), (by first | exact Nat.le_of_ble_eq_true rfl | (show _ ≤ 0; omega))⟩ rfl hl rfl (Nat.le_of_ble_eq_true rfl) dX2_load_19) hw (fun r3 G3 H locs hp3 hw => ?_)
    obtain ⟨hre, hGe⟩ := hp3
    have hre : r3 = pt_b (pm_in lane 0 2) := hre
    obtain rfl := hre.symm
    obtain rfl := hGe.symm
    refine lv_if_ne (tgt := 28) hx hb dX2_load_22 (by decide) (fun c22 => ?_) (fun c22 => ?_)
    · replace c22 := pt_b1 c22
      obtain ⟨K, hKb, hK, hKc⟩ := pm_cl (n := 3) (by decide) c11
      rw [hK] at hl
      have hsK := (hsl K (by omega)).2
      refine lv_aload_n hx hb dX2_load_28 rfl (lv_at hl 0 rfl) ?_
      refine gf_X2_46 C hw hm.1 (v := .ref (ad 18)) rfl dX2_load_29 ?_
      refine lv_iload_n hx hb dX2_load_32 rfl (lv_at hl 1 rfl) ?_
      refine mo_ald (v := ar 18 K) C hw hm 18 (by decide) (by decide) K rfl (show K < 4 by omega) rfl dX2_load_33 ?_
      refine lv_bipush (v := (-9)) hx hb dX2_load_34 (by decide) ?_
      refine lv_icmp_eq (tgt := 55) hx hb dX2_load_36 (by decide) (fun c36 => ?_) (fun c36 => ?_)
      · refine lv_aload_n hx hb dX2_load_55 rfl (lv_at hl 0 rfl) ?_
        refine gf_X2_46 C hw hm.1 (v := .ref (ad 18)) rfl dX2_load_56 ?_
        refine lv_iload_n hx hb dX2_load_59 rfl (lv_at hl 1 rfl) ?_
        refine mo_ald (v := ar 18 K) C hw hm 18 (by decide) (by decide) K rfl (show K < 4 by omega) rfl dX2_load_60 ?_
        refine lv_bipush (v := (-9)) hx hb dX2_load_61 (by decide) ?_
        refine lv_icmp_ne (tgt := 72) hx hb dX2_load_63 (by decide) (fun c63 => absurd c63 (not_not_intro c36)) (fun c63 => ?_)
        refine lv_aload_n hx hb dX2_load_66 rfl (lv_at hl 0 rfl) ?_
        refine lv_iconst (v := 1) hx hb dX2_load_67 (by decide) ?_
        refine tf_goi (tf_V (n := 1) C hw hm.1 rfl [.int 1] (metX2_fails hB hm 1) (lw_V q1075 q1077 qs22 q45 q1078) rfl ⟨by decide, by decide, by decide +kernel⟩ ⟨rfl, rfl, Nat.le_of_ble_eq_true rfl, Nat.le_of_ble_eq_true rfl, (by first | exact Nat.le_of_ble_eq_true rfl | (show _ ≤ 0; omega)), (by first | exact Nat.le_of_ble_eq_true rfl | (show _ ≤ 0; omega))⟩ rfl hl rfl (Nat.le_of_ble_eq_true rfl) dX2_load_68) hw (fun r4 G4 H locs hp4 hw => ?_)
        obtain ⟨hre, hm⟩ := hp4
        obtain rfl := hre.symm
        refine tf_reti C hw hr hlk dX2_load_71 (by first | exact Nat.le_of_ble_eq_true rfl | omega) (by first | exact Nat.le_of_ble_eq_true rfl | omega) ?_
        refine ⟨_, _, ?_, hm⟩
        simp only [pm_load, c11, c22, if_true, hKc]
        rw [if_pos c36]
        rfl
      · refine lv_aload_n hx hb dX2_load_39 rfl (lv_at hl 0 rfl) ?_
        refine gf_X2_46 C hw hm.1 (v := .ref (ad 18)) rfl dX2_load_40 ?_
        refine lv_iload_n hx hb dX2_load_43 rfl (lv_at hl 1 rfl) ?_
        refine mo_ald (v := ar 18 K) C hw hm 18 (by decide) (by decide) K rfl (show K < 4 by omega) rfl dX2_load_44 ?_
        refine lv_iload_n hx hb dX2_load_45 rfl (lv_at hl 2 rfl) ?_
        refine lv_icmp_eq (tgt := 55) hx hb dX2_load_46 (by decide) (fun c46 => ?_) (fun c46 => ?_)
        · refine lv_aload_n hx hb dX2_load_55 rfl (lv_at hl 0 rfl) ?_
          refine gf_X2_46 C hw hm.1 (v := .ref (ad 18)) rfl dX2_load_56 ?_
          refine lv_iload_n hx hb dX2_load_59 rfl (lv_at hl 1 rfl) ?_
          refine mo_ald (v := ar 18 K) C hw hm 18 (by decide) (by decide) K rfl (show K < 4 by omega) rfl dX2_load_60 ?_
          refine lv_bipush (v := (-9)) hx hb dX2_load_61 (by decide) ?_
          refine lv_icmp_ne (tgt := 72) hx hb dX2_load_63 (by decide) (fun c63 => ?_) (fun c63 => absurd c63 c36)
          refine lv_iload hx hb dX2_load_72 (lv_at hl 4 rfl) ?_
          refine lv_if_ge (tgt := 83) hx hb dX2_load_74 (by decide) (fun c74 => ?_) (fun c74 => ?_)
          · refine lv_iload_n hx hb dX2_load_83 rfl (lv_at hl 3 rfl) ?_
            refine lv_if_lt (tgt := 117) hx hb dX2_load_84 (by decide) (fun c84 => ?_) (fun c84 => ?_)
            · refine lv_aload_n hx hb dX2_load_117 rfl (lv_at hl 0 rfl) ?_
              refine lv_iconst (v := 3) hx hb dX2_load_118 (by decide) ?_
              refine tf_goi (tf_V (n := 1) C hw hm.1 rfl [.int 3] (metX2_fails hB hm 3) (lw_V q1075 q1077 qs22 q45 q1078) rfl ⟨by decide, by decide, by decide +kernel⟩ ⟨rfl, rfl, Nat.le_of_ble_eq_true rfl, Nat.le_of_ble_eq_true rfl, (by first | exact Nat.le_of_ble_eq_true rfl | (show _ ≤ 0; omega)), (by first | exact Nat.le_of_ble_eq_true rfl | (show _ ≤ 0; omega))⟩ rfl hl rfl (Nat.le_of_ble_eq_true rfl) dX2_load_119) hw (fun r5 G5 H locs hp5 hw => ?_)
              obtain ⟨hre, hm⟩ := hp5
              obtain rfl := hre.symm
              refine tf_reti C hw hr hlk dX2_load_122 (by first | exact Nat.le_of_ble_eq_true rfl | omega) (by first | exact Nat.le_of_ble_eq_true rfl | omega) ?_
              refine ⟨_, _, ?_, hm⟩
              simp only [pm_load, c11, c22, if_true, hKc]
              rw [if_neg c36, if_pos c46, if_pos c74, if_pos c84]
              rfl
            · refine lv_iload_n hx hb dX2_load_87 rfl (lv_at hl 3 rfl) ?_
              refine lv_aload_n hx hb dX2_load_88 rfl (lv_at hl 0 rfl) ?_
              refine gf_X2_49 C hw hm.1 (v := .ref (ad 19)) rfl dX2_load_89 ?_
              refine lv_iload_n hx hb dX2_load_92 rfl (lv_at hl 1 rfl) ?_
              refine mo_ald (v := nI (sl K)) C hw hm 19 (by decide) (by decide) K rfl (show K < 4 by omega) (hsl K (by omega)).1 dX2_load_93 ?_
              refine lv_icmp_gt (tgt := 117) hx hb dX2_load_94 (by decide) (fun c94 => ?_) (fun c94 => ?_)
              · refine lv_aload_n hx hb dX2_load_117 rfl (lv_at hl 0 rfl) ?_
                refine lv_iconst (v := 3) hx hb dX2_load_118 (by decide) ?_
                refine tf_goi (tf_V (n := 1) C hw hm.1 rfl [.int 3] (metX2_fails hB hm 3) (lw_V q1075 q1077 qs22 q45 q1078) rfl ⟨by decide, by decide, by decide +kernel⟩ ⟨rfl, rfl, Nat.le_of_ble_eq_true rfl, Nat.le_of_ble_eq_true rfl, (by first | exact Nat.le_of_ble_eq_true rfl | (show _ ≤ 0; omega)), (by first | exact Nat.le_of_ble_eq_true rfl | (show _ ≤ 0; omega))⟩ rfl hl rfl (Nat.le_of_ble_eq_true rfl) dX2_load_119) hw (fun r6 G6 H locs hp6 hw => ?_)
                obtain ⟨hre, hm⟩ := hp6
                obtain rfl := hre.symm
                refine tf_reti C hw hr hlk dX2_load_122 (by first | exact Nat.le_of_ble_eq_true rfl | omega) (by first | exact Nat.le_of_ble_eq_true rfl | omega) ?_
                refine ⟨_, _, ?_, hm⟩
                simp only [pm_load, c11, c22, if_true, hKc]
                rw [if_neg c36, if_pos c46, if_pos c74, if_neg c84, (hsl K (by omega)).1, if_pos c94]
                rfl
              · refine lv_ldc2 (v := 4) hx hb C.hown (C.hts _ q1079) dX2_load_97 ?_
                refine lv_iload hx hb dX2_load_100 (lv_at hl 4 rfl) ?_
                refine lv_i2l hx hb dX2_load_102 rfl ?_
                refine lv_lmul hx hb dX2_load_103 ?_
                refine lv_aload_n hx hb dX2_load_104 rfl (lv_at hl 0 rfl) ?_
                refine gf_X2_49 C hw hm.1 (v := .ref (ad 19)) rfl dX2_load_105 ?_
                refine lv_iload_n hx hb dX2_load_108 rfl (lv_at hl 1 rfl) ?_
                refine mo_ald (v := nI (sl K)) C hw hm 19 (by decide) (by decide) K rfl (show K < 4 by omega) (hsl K (by omega)).1 dX2_load_109 ?_
                refine lv_iload_n hx hb dX2_load_110 rfl (lv_at hl 3 rfl) ?_
                refine lv_isub hx hb dX2_load_111 ?_
                refine lv_i2l hx hb dX2_load_112 rfl ?_
                refine W.lcmp hx hb dX2_load_113 ?_
                refine lv_if_le (tgt := 123) hx hb dX2_load_114 (by decide) (fun c114 => ?_) (fun c114 => ?_)
                · rw [lg_cmp_le] at c114
                  obtain ⟨I, hI31, hI⟩ := nI_of (Int32.not_lt.mpr (Int32.not_lt.mp c84))
                  have hIs : I ≤ sl K := by rw [hI] at c94; exact Nat.le_of_not_lt (fun z => c94 ((nI_ltI (by omega) hI31).mpr z))
                  have c114b := c114
                  rw [hI] at c114b
                  obtain ⟨N, hN4, hNe, hNc⟩ := pm_fit hsK hIs c74 c114b
                  have hIc : i.toNatClampNeg = I := by rw [hI]; exact nI_clamp hI31
                  rw [hI, hNe] at hl
                  refine lv_iconst (v := 0) hx hb dX2_load_123 (by decide) ?_
                  refine lv_istore (lv' := [(5, .int 0), (0, .ref mm), (1, .int (nI K)), (2, .int lane), (3, .int (nI I)), (4, .int (nI N))]) hx hb dX2_load_124 hl (by decide) rfl (fun ls hl => ?_)
                  have b126 : ∀ (fuel : Nat) (k : Nat), N - k < fuel → (k ≤ N) → (pm_badL iv ar (40 * K + I) k = 0) → ∀ (H : Heap) (locs : List Loc), tf_Wd S0 D (tf_A G sz) s.heap G1 H locs → ∀ (ls : Array Slot), lv_has ls 8 [(5, .int (nI k)), (0, .ref mm), (1, .int (nI K)), (2, .int lane), (3, .int (nI I)), (4, .int (nI N))] → W p l e (tf_rm 3 0 0) s m ([.ref mm, .int s0, .int lane, .int i, .int n] : List Value).toArray below meth c H locs 0 0 (MQ below (tf_Qi S0 D sz G (fun r G1 => ∃ iv1 ar1, (r, iv1, ar1) = pm_load iv ar nh s0 lane i n ∧ mo_W dA mm ad iv1 ar1 fr G1)) ([.ref mm, .int s0, .int lane, .int i, .int n] : List Value).toArray s 0 0 (tf_A G sz)) (F0 m 126 ls []) := by
                    intro fuel126
                    induction fuel126 with
                    | zero => intro k hfu126; exact absurd hfu126 (Nat.not_lt_zero _)
                    | succ fuel126 ih126 =>
                      intro k hfu126 hk hbad H locs hw ls hl
                      refine lv_iload hx hb dX2_load_126 (lv_at hl 0 rfl) ?_
                      refine lv_iload hx hb dX2_load_128 (lv_at hl 5 rfl) ?_
                      refine tf_icmp_geN hx hb k N rfl rfl (tgt := 200) dX2_load_130 (by decide) (by omega) (by omega) (fun c130 => ?_) (fun c130 => ?_)
                      · have hbadN : pm_badL iv ar (40 * K + I) N = 0 := by rw [show N = k by omega]; exact hbad
                        refine lv_aload_n hx hb dX2_load_200 rfl (lv_at hl 1 rfl) ?_
                        refine gf_X2_107 C hw hm.1 (v := .int (nI nh)) (by rw [← hk5]; rfl) dX2_load_201 ?_
                        refine lv_iload hx hb dX2_load_204 (lv_at hl 5 rfl) ?_
                        refine tf_iaddN hx hb nh N rfl rfl dX2_load_206 ?_
                        refine lv_sipush (v := 240) hx hb dX2_load_207 (by decide) ?_
                        refine tf_icmp_leN hx hb (nh + N) 240 rfl rfl (tgt := 216) dX2_load_210 (by decide) (by omega) (by omega) (fun c210 => ?_) (fun c210 => ?_)
                        · refine lv_iconst (v := 0) hx hb dX2_load_216 (by decide) ?_
                          refine lv_istore (lv' := [(5, .int 0), (0, .ref mm), (1, .int (nI K)), (2, .int lane), (3, .int (nI I)), (4, .int (nI N))]) hx hb dX2_load_217 hl (by decide) rfl (fun ls hl => ?_)
                          have hm := mo_eqi (va_up_owni (va_up iv 0 0) 5 (show nI (nh + 0) = va_up iv 0 0 5 from hk5.symm)) hm
                          have b219 : ∀ (fuel : Nat) (k : Nat) (Gx : tf_Pic), N - k < fuel → (k ≤ N) → (mo_W dA mm ad (va_up (va_up iv 0 0) 5 (nI (nh + k))) (pm_addsL ar (40 * K + I) nh k) fr Gx) → ∀ (H : Heap) (locs : List Loc), tf_Wd S0 D (tf_A G sz) s.heap Gx H locs → ∀ (ls : Array Slot), lv_has ls 8 [(5, .int (nI k)), (0, .ref mm), (1, .int (nI K)), (2, .int lane), (3, .int (nI I)), (4, .int (nI N))] → W p l e (tf_rm 3 0 0) s m ([.ref mm, .int s0, .int lane, .int i, .int n] : List Value).toArray below meth c H locs 0 0 (MQ below (tf_Qi S0 D sz G (fun r G1 => ∃ iv1 ar1, (r, iv1, ar1) = pm_load iv ar nh s0 lane i n ∧ mo_W dA mm ad iv1 ar1 fr G1)) ([.ref mm, .int s0, .int lane, .int i, .int n] : List Value).toArray s 0 0 (tf_A G sz)) (F0 m 219 ls []) := by
                            intro fuel219
                            induction fuel219 with
                            | zero => intro k Gx hfu219; exact absurd hfu219 (Nat.not_lt_zero _)
                            | succ fuel219 ih219 =>
                              intro k Gx hfu219 hk hm H locs hw ls hl
                              refine lv_iload hx hb dX2_load_219 (lv_at hl 0 rfl) ?_
                              refine lv_iload hx hb dX2_load_221 (lv_at hl 5 rfl) ?_
                              refine tf_icmp_geN hx hb k N rfl rfl (tgt := 283) dX2_load_223 (by decide) (by omega) (by omega) (fun c223 => ?_) (fun c223 => ?_)
                              · refine lv_aload_n hx hb dX2_load_283 rfl (lv_at hl 1 rfl) ?_
                                refine gf_X2_107 C hw hm.1 (v := .int (nI (nh + k))) rfl dX2_load_284 ?_
                                refine tf_reti C hw hr hlk dX2_load_287 (by first | exact Nat.le_of_ble_eq_true rfl | omega) (by first | exact Nat.le_of_ble_eq_true rfl | omega) ?_
                                refine ⟨_, _, ?_, hm⟩
                                simp only [pm_load, c11, c22, if_true, hKc]
                                rw [if_neg c36, if_pos c46, if_pos c74, if_neg c84, (hsl K (by omega)).1, if_neg c94, if_pos c114, hIc, hNc, hbadN, if_pos rfl, if_pos (by omega), show k = N by omega]
                              · refine lv_bipush (v := 40) hx hb dX2_load_226 (by decide) ?_
                                refine lv_iload_n hx hb dX2_load_228 rfl (lv_at hl 2 rfl) ?_
                                refine tf_imulN hx hb 40 K rfl rfl dX2_load_229 ?_
                                refine lv_iload_n hx hb dX2_load_230 rfl (lv_at hl 4 rfl) ?_
                                refine tf_iaddN hx hb (40 * K) I rfl rfl dX2_load_231 ?_
                                refine lv_iconst (v := 4) hx hb dX2_load_232 (by decide) ?_
                                refine lv_iload hx hb dX2_load_233 (lv_at hl 0 rfl) ?_
                                refine tf_imulN hx hb 4 k rfl rfl dX2_load_235 ?_
                                refine tf_iaddN hx hb ((40 * K) + I) (4 * k) rfl rfl dX2_load_236 ?_
                                refine lv_istore (lv' := [(6, .int (nI (((40 * K) + I) + (4 * k)))), (5, .int (nI k)), (0, .ref mm), (1, .int (nI K)), (2, .int lane), (3, .int (nI I)), (4, .int (nI N))]) hx hb dX2_load_237 hl (by decide) rfl (fun ls hl => ?_)
                                refine lv_aload_n hx hb dX2_load_239 rfl (lv_at hl 2 rfl) ?_
                                refine lv_aload_n hx hb dX2_load_240 rfl (lv_at hl 2 rfl) ?_
                                refine gf_X2_52 C hw hm.1 (v := .ref (ad 20)) rfl dX2_load_241 ?_
                                refine lv_iload hx hb dX2_load_244 (lv_at hl 0 rfl) ?_
                                refine mo_ald (v := ar 20 (((40 * K) + I) + (4 * k))) C hw hm 20 (by decide) (by decide) (((40 * K) + I) + (4 * k)) rfl (show ((40 * K) + I) + (4 * k) < 160 by omega) (by rw [pm_adds20]) dX2_load_246 ?_
                                refine lv_aload_n hx hb dX2_load_247 rfl (lv_at hl 2 rfl) ?_
                                refine gf_X2_52 C hw hm.1 (v := .ref (ad 20)) rfl dX2_load_248 ?_
                                refine lv_iload hx hb dX2_load_251 (lv_at hl 0 rfl) ?_
                                refine lv_iconst (v := 1) hx hb dX2_load_253 (by decide) ?_
                                refine tf_iaddN hx hb (((40 * K) + I) + (4 * k)) 1 rfl rfl dX2_load_254 ?_
                                refine mo_ald (v := ar 20 ((((40 * K) + I) + (4 * k)) + 1)) C hw hm 20 (by decide) (by decide) ((((40 * K) + I) + (4 * k)) + 1) rfl (show (((40 * K) + I) + (4 * k)) + 1 < 160 by omega) (by rw [pm_adds20]) dX2_load_255 ?_
                                refine lv_aload_n hx hb dX2_load_256 rfl (lv_at hl 2 rfl) ?_
                                refine gf_X2_52 C hw hm.1 (v := .ref (ad 20)) rfl dX2_load_257 ?_
                                refine lv_iload hx hb dX2_load_260 (lv_at hl 0 rfl) ?_
                                refine lv_iconst (v := 2) hx hb dX2_load_262 (by decide) ?_
                                refine tf_iaddN hx hb (((40 * K) + I) + (4 * k)) 2 rfl rfl dX2_load_263 ?_
                                refine mo_ald (v := ar 20 ((((40 * K) + I) + (4 * k)) + 2)) C hw hm 20 (by decide) (by decide) ((((40 * K) + I) + (4 * k)) + 2) rfl (show (((40 * K) + I) + (4 * k)) + 2 < 160 by omega) (by rw [pm_adds20]) dX2_load_264 ?_
                                refine lv_aload_n hx hb dX2_load_265 rfl (lv_at hl 2 rfl) ?_
                                refine gf_X2_52 C hw hm.1 (v := .ref (ad 20)) rfl dX2_load_266 ?_
                                refine lv_iload hx hb dX2_load_269 (lv_at hl 0 rfl) ?_
                                refine lv_iconst (v := 3) hx hb dX2_load_271 (by decide) ?_
                                refine tf_iaddN hx hb (((40 * K) + I) + (4 * k)) 3 rfl rfl dX2_load_272 ?_
                                refine mo_ald (v := ar 20 ((((40 * K) + I) + (4 * k)) + 3)) C hw hm 20 (by decide) (by decide) ((((40 * K) + I) + (4 * k)) + 3) rfl (show (((40 * K) + I) + (4 * k)) + 3 < 160 by omega) (by rw [pm_adds20]) dX2_load_273 ?_
                                refine tf_gov (tf_V (n := 4) C hw hm.1 rfl [.int (ar 20 (((40 * K) + I) + (4 * k))), .int (ar 20 ((((40 * K) + I) + (4 * k)) + 1)), .int (ar 20 ((((40 * K) + I) + (4 * k)) + 2)), .int (ar 20 ((((40 * K) + I) + (4 * k)) + 3))] (metX2_addHit hB hm (n := nh + k) rfl (by omega) (ar 20 (((40 * K) + I) + (4 * k))) (ar 20 ((((40 * K) + I) + (4 * k)) + 1)) (ar 20 ((((40 * K) + I) + (4 * k)) + 2)) (ar 20 ((((40 * K) + I) + (4 * k)) + 3))) (lw_V q1067 q1069 qs21 q45 q1070) rfl ⟨by decide, by decide, by decide +kernel⟩ ⟨rfl, rfl, Nat.le_of_ble_eq_true rfl, Nat.le_of_ble_eq_true rfl, (by first | exact Nat.le_of_ble_eq_true rfl | (show _ ≤ 0; omega)), (by first | exact Nat.le_of_ble_eq_true rfl | (show _ ≤ 0; omega))⟩ rfl hl rfl (Nat.le_of_ble_eq_true rfl) dX2_load_274) hw (fun G7 H locs hp7 hw => ?_)
                                have hm : mo_W dA mm ad (va_up (va_up iv 0 0) 5 (nI (nh + (k + 1)))) (pm_addsL ar (40 * K + I) nh (k + 1)) fr G7 := mo_eqi (bx_uu _ _ _ _) hp7
                                refine lv_iinc (v := nI (k + 1)) (lv' := [(5, .int (nI (k + 1))), (6, .int (nI (((40 * K) + I) + (4 * k)))), (0, .ref mm), (1, .int (nI K)), (2, .int lane), (3, .int (nI I)), (4, .int (nI N))]) hx hb dX2_load_277 hl (k := 1) rfl (nI_1 _) (by decide) rfl (fun ls hl => ?_)
                                refine lv_goto (tgt := 219) hx hb dX2_load_280 (by decide) ?_
                                exact ih219 (k + 1) _ (by omega) (by omega) hm _ _ hw ls (lv_sub hl [0, 2, 3, 4, 5, 6] rfl)
                          exact b219 (N + 1) 0 _ (by omega) (by omega) hm _ _ hw ls hl
                        · refine lv_bipush (v := (-4)) hx hb dX2_load_213 (by decide) ?_
                          refine tf_reti C hw hr hlk dX2_load_215 (by first | exact Nat.le_of_ble_eq_true rfl | omega) (by first | exact Nat.le_of_ble_eq_true rfl | omega) ?_
                          refine ⟨_, _, ?_, hm⟩
                          simp only [pm_load, c11, c22, if_true, hKc]
                          rw [if_neg c36, if_pos c46, if_pos c74, if_neg c84, (hsl K (by omega)).1, if_neg c94, if_pos c114, hIc, hNc, hbadN, if_pos rfl, if_neg (by omega)]
                      · refine lv_bipush (v := 40) hx hb dX2_load_133 (by decide) ?_
                        refine lv_iload_n hx hb dX2_load_135 rfl (lv_at hl 2 rfl) ?_
                        refine tf_imulN hx hb 40 K rfl rfl dX2_load_136 ?_
                        refine lv_iload_n hx hb dX2_load_137 rfl (lv_at hl 4 rfl) ?_
                        refine tf_iaddN hx hb (40 * K) I rfl rfl dX2_load_138 ?_
                        refine lv_iconst (v := 4) hx hb dX2_load_139 (by decide) ?_
                        refine lv_iload hx hb dX2_load_140 (lv_at hl 0 rfl) ?_
                        refine tf_imulN hx hb 4 k rfl rfl dX2_load_142 ?_
                        refine tf_iaddN hx hb ((40 * K) + I) (4 * k) rfl rfl dX2_load_143 ?_
                        refine lv_istore (lv' := [(6, .int (nI (((40 * K) + I) + (4 * k)))), (5, .int (nI k)), (0, .ref mm), (1, .int (nI K)), (2, .int lane), (3, .int (nI I)), (4, .int (nI N))]) hx hb dX2_load_144 hl (by decide) rfl (fun ls hl => ?_)
                        refine lv_aload_n hx hb dX2_load_146 rfl (lv_at hl 2 rfl) ?_
                        refine lv_aload_n hx hb dX2_load_147 rfl (lv_at hl 2 rfl) ?_
                        refine gf_X2_52 C hw hm.1 (v := .ref (ad 20)) rfl dX2_load_148 ?_
                        refine lv_iload hx hb dX2_load_151 (lv_at hl 0 rfl) ?_
                        refine mo_ald (v := ar 20 (((40 * K) + I) + (4 * k))) C hw hm 20 (by decide) (by decide) (((40 * K) + I) + (4 * k)) rfl (show ((40 * K) + I) + (4 * k) < 160 by omega) rfl dX2_load_153 ?_
                        refine lv_aload_n hx hb dX2_load_154 rfl (lv_at hl 2 rfl) ?_
                        refine gf_X2_52 C hw hm.1 (v := .ref (ad 20)) rfl dX2_load_155 ?_
                        refine lv_iload hx hb dX2_load_158 (lv_at hl 0 rfl) ?_
                        refine lv_iconst (v := 1) hx hb dX2_load_160 (by decide) ?_
                        refine tf_iaddN hx hb (((40 * K) + I) + (4 * k)) 1 rfl rfl dX2_load_161 ?_
                        refine mo_ald (v := ar 20 ((((40 * K) + I) + (4 * k)) + 1)) C hw hm 20 (by decide) (by decide) ((((40 * K) + I) + (4 * k)) + 1) rfl (show (((40 * K) + I) + (4 * k)) + 1 < 160 by omega) rfl dX2_load_162 ?_
                        refine lv_aload_n hx hb dX2_load_163 rfl (lv_at hl 2 rfl) ?_
                        refine gf_X2_52 C hw hm.1 (v := .ref (ad 20)) rfl dX2_load_164 ?_
                        refine lv_iload hx hb dX2_load_167 (lv_at hl 0 rfl) ?_
                        refine lv_iconst (v := 2) hx hb dX2_load_169 (by decide) ?_
                        refine tf_iaddN hx hb (((40 * K) + I) + (4 * k)) 2 rfl rfl dX2_load_170 ?_
                        refine mo_ald (v := ar 20 ((((40 * K) + I) + (4 * k)) + 2)) C hw hm 20 (by decide) (by decide) ((((40 * K) + I) + (4 * k)) + 2) rfl (show (((40 * K) + I) + (4 * k)) + 2 < 160 by omega) rfl dX2_load_171 ?_
                        refine lv_aload_n hx hb dX2_load_172 rfl (lv_at hl 2 rfl) ?_
                        refine gf_X2_52 C hw hm.1 (v := .ref (ad 20)) rfl dX2_load_173 ?_
                        refine lv_iload hx hb dX2_load_176 (lv_at hl 0 rfl) ?_
                        refine lv_iconst (v := 3) hx hb dX2_load_178 (by decide) ?_
                        refine tf_iaddN hx hb (((40 * K) + I) + (4 * k)) 3 rfl rfl dX2_load_179 ?_
                        refine mo_ald (v := ar 20 ((((40 * K) + I) + (4 * k)) + 3)) C hw hm 20 (by decide) (by decide) ((((40 * K) + I) + (4 * k)) + 3) rfl (show (((40 * K) + I) + (4 * k)) + 3 < 160 by omega) rfl dX2_load_180 ?_
                        refine tf_goi (tf_V (n := 4) C hw hm.1 rfl [.int (ar 20 (((40 * K) + I) + (4 * k))), .int (ar 20 ((((40 * K) + I) + (4 * k)) + 1)), .int (ar 20 ((((40 * K) + I) + (4 * k)) + 2)), .int (ar 20 ((((40 * K) + I) + (4 * k)) + 3))] (metX2_against hB hm (ar 20 (((40 * K) + I) + (4 * k))) (ar 20 ((((40 * K) + I) + (4 * k)) + 1)) (ar 20 ((((40 * K) + I) + (4 * k)) + 2)) (ar 20 ((((40 * K) + I) + (4 * k)) + 3))) (lw_V q1059 q1061 qs19 q45 q1062) rfl ⟨by decide, by decide, by decide +kernel⟩ ⟨rfl, rfl, Nat.le_of_ble_eq_true rfl, Nat.le_of_ble_eq_true rfl, (by first | exact Nat.le_of_ble_eq_true rfl | (show _ ≤ 0; omega)), (by first | exact Nat.le_of_ble_eq_true rfl | (show _ ≤ 0; omega))⟩ rfl hl rfl (Nat.le_of_ble_eq_true rfl) dX2_load_181) hw (fun r8 G8 H locs hp8 hw => ?_)
                        obtain ⟨hre, hGe⟩ := hp8
                        have hre : r8 = pm_against (iv 2) (ar 20 (((40 * K) + I) + (4 * k))) (ar 20 ((((40 * K) + I) + (4 * k)) + 1)) (ar 20 ((((40 * K) + I) + (4 * k)) + 2)) (ar 20 ((((40 * K) + I) + (4 * k)) + 3)) := hre
                        obtain rfl := hre.symm
                        obtain rfl := hGe.symm
                        refine lv_istore (lv' := [(7, .int (pm_against (iv 2) (ar 20 (((40 * K) + I) + (4 * k))) (ar 20 ((((40 * K) + I) + (4 * k)) + 1)) (ar 20 ((((40 * K) + I) + (4 * k)) + 2)) (ar 20 ((((40 * K) + I) + (4 * k)) + 3)))), (6, .int (nI (((40 * K) + I) + (4 * k)))), (5, .int (nI k)), (0, .ref mm), (1, .int (nI K)), (2, .int lane), (3, .int (nI I)), (4, .int (nI N))]) hx hb dX2_load_184 hl (by decide) rfl (fun ls hl => ?_)
                        refine lv_iload hx hb dX2_load_186 (lv_at hl 0 rfl) ?_
                        refine lv_if_eq (tgt := 194) hx hb dX2_load_188 (by decide) (fun c188 => ?_) (fun c188 => ?_)
                        · refine lv_iinc (v := nI (k + 1)) (lv' := [(5, .int (nI (k + 1))), (7, .int (pm_against (iv 2) (ar 20 (((40 * K) + I) + (4 * k))) (ar 20 ((((40 * K) + I) + (4 * k)) + 1)) (ar 20 ((((40 * K) + I) + (4 * k)) + 2)) (ar 20 ((((40 * K) + I) + (4 * k)) + 3)))), (6, .int (nI (((40 * K) + I) + (4 * k)))), (0, .ref mm), (1, .int (nI K)), (2, .int lane), (3, .int (nI I)), (4, .int (nI N))]) hx hb dX2_load_194 hl (k := 2) rfl (nI_1 _) (by decide) rfl (fun ls hl => ?_)
                          refine lv_goto (tgt := 126) hx hb dX2_load_197 (by decide) ?_
                          exact ih126 (k + 1) (by omega) (by omega) (by show (if pm_badL iv ar (40 * K + I) k = 0 then _ else _) = 0; rw [if_pos hbad]; exact c188) _ _ hw ls (lv_sub hl [0, 3, 4, 5, 6, 7] rfl)
                        · refine lv_iload hx hb dX2_load_191 (lv_at hl 0 rfl) ?_
                          refine tf_reti C hw hr hlk dX2_load_193 (by first | exact Nat.le_of_ble_eq_true rfl | omega) (by first | exact Nat.le_of_ble_eq_true rfl | omega) ?_
                          refine ⟨_, _, ?_, hm⟩
                          simp only [pm_load, c11, c22, if_true, hKc]
                          have hz := pm_bad_t (show pm_badL iv ar (40 * K + I) (k + 1) = _ from (by show (if pm_badL iv ar (40 * K + I) k = 0 then _ else _) = _; rw [if_pos hbad])) c188 (N - (k + 1))
                          rw [show k + 1 + (N - (k + 1)) = N by omega] at hz
                          rw [if_neg c36, if_pos c46, if_pos c74, if_neg c84, (hsl K (by omega)).1, if_neg c94, if_pos c114, hIc, hNc, hz, if_neg c188]
                  exact b126 (N + 1) 0 (by omega) (by omega) rfl _ _ hw ls hl
                · rw [lg_cmp_le] at c114
                  refine lv_aload_n hx hb dX2_load_117 rfl (lv_at hl 0 rfl) ?_
                  refine lv_iconst (v := 3) hx hb dX2_load_118 (by decide) ?_
                  refine tf_goi (tf_V (n := 1) C hw hm.1 rfl [.int 3] (metX2_fails hB hm 3) (lw_V q1075 q1077 qs22 q45 q1078) rfl ⟨by decide, by decide, by decide +kernel⟩ ⟨rfl, rfl, Nat.le_of_ble_eq_true rfl, Nat.le_of_ble_eq_true rfl, (by first | exact Nat.le_of_ble_eq_true rfl | (show _ ≤ 0; omega)), (by first | exact Nat.le_of_ble_eq_true rfl | (show _ ≤ 0; omega))⟩ rfl hl rfl (Nat.le_of_ble_eq_true rfl) dX2_load_119) hw (fun r9 G9 H locs hp9 hw => ?_)
                  obtain ⟨hre, hm⟩ := hp9
                  obtain rfl := hre.symm
                  refine tf_reti C hw hr hlk dX2_load_122 (by first | exact Nat.le_of_ble_eq_true rfl | omega) (by first | exact Nat.le_of_ble_eq_true rfl | omega) ?_
                  refine ⟨_, _, ?_, hm⟩
                  simp only [pm_load, c11, c22, if_true, hKc]
                  rw [if_neg c36, if_pos c46, if_pos c74, if_neg c84, (hsl K (by omega)).1, if_neg c94, if_neg c114]
                  rfl
          · refine lv_aload_n hx hb dX2_load_77 rfl (lv_at hl 0 rfl) ?_
            refine lv_iconst (v := 4) hx hb dX2_load_78 (by decide) ?_
            refine tf_goi (tf_V (n := 1) C hw hm.1 rfl [.int 4] (metX2_fails hB hm 4) (lw_V q1075 q1077 qs22 q45 q1078) rfl ⟨by decide, by decide, by decide +kernel⟩ ⟨rfl, rfl, Nat.le_of_ble_eq_true rfl, Nat.le_of_ble_eq_true rfl, (by first | exact Nat.le_of_ble_eq_true rfl | (show _ ≤ 0; omega)), (by first | exact Nat.le_of_ble_eq_true rfl | (show _ ≤ 0; omega))⟩ rfl hl rfl (Nat.le_of_ble_eq_true rfl) dX2_load_79) hw (fun r10 G10 H locs hp10 hw => ?_)
            obtain ⟨hre, hm⟩ := hp10
            obtain rfl := hre.symm
            refine tf_reti C hw hr hlk dX2_load_82 (by first | exact Nat.le_of_ble_eq_true rfl | omega) (by first | exact Nat.le_of_ble_eq_true rfl | omega) ?_
            refine ⟨_, _, ?_, hm⟩
            simp only [pm_load, c11, c22, if_true, hKc]
            rw [if_neg c36, if_pos c46, if_neg c74]
            rfl
        · refine lv_aload_n hx hb dX2_load_49 rfl (lv_at hl 0 rfl) ?_
          refine lv_iconst (v := 2) hx hb dX2_load_50 (by decide) ?_
          refine tf_goi (tf_V (n := 1) C hw hm.1 rfl [.int 2] (metX2_fails hB hm 2) (lw_V q1075 q1077 qs22 q45 q1078) rfl ⟨by decide, by decide, by decide +kernel⟩ ⟨rfl, rfl, Nat.le_of_ble_eq_true rfl, Nat.le_of_ble_eq_true rfl, (by first | exact Nat.le_of_ble_eq_true rfl | (show _ ≤ 0; omega)), (by first | exact Nat.le_of_ble_eq_true rfl | (show _ ≤ 0; omega))⟩ rfl hl rfl (Nat.le_of_ble_eq_true rfl) dX2_load_51) hw (fun r11 G11 H locs hp11 hw => ?_)
          obtain ⟨hre, hm⟩ := hp11
          obtain rfl := hre.symm
          refine tf_reti C hw hr hlk dX2_load_54 (by first | exact Nat.le_of_ble_eq_true rfl | omega) (by first | exact Nat.le_of_ble_eq_true rfl | omega) ?_
          refine ⟨_, _, ?_, hm⟩
          simp only [pm_load, c11, c22, if_true, hKc]
          rw [if_neg c36, if_neg c46]
          rfl
    · replace c22 := pt_b0 c22
      refine lv_bipush (v := (-2)) hx hb dX2_load_25 (by decide) ?_
      exact tf_reti C hw hr hlk dX2_load_27 (by first | exact Nat.le_of_ble_eq_true rfl | omega) (by first | exact Nat.le_of_ble_eq_true rfl | omega) (by refine ⟨_, _, ?_, hm⟩; simp [pm_load, c11, c22])
  · replace c11 := pt_b0 c11
    refine lv_iconst (v := (-1)) hx hb dX2_load_14 (by decide) ?_
    exact tf_reti C hw hr hlk dX2_load_15 (by first | exact Nat.le_of_ble_eq_true rfl | omega) (by first | exact Nat.le_of_ble_eq_true rfl | omega) (by refine ⟨_, _, ?_, hm⟩; simp [pm_load, c11])
