/-! MODULE TankFieldModel, part 10: making -/
set_option maxRecDepth 100000

theorem tf_le0 {k : Nat} (h : k < 2 ^ 31) (hc : nI k ≤ 0) : k = 0 := by
  cases k with
  | zero => rfl
  | succ k => exact absurd hc (nI_nle (by omega) h)
theorem pm_ins_lt (R : Nat → Int32) (L : List (Nat × Nat)) (x : Nat × Nat) {n : Nat} (h : ∀ j, j < L.length → (L.getD j (0, 0)).1 < n) (hx : x.1 < n) : ∀ j, j < (pm_insert R L x).length → ((pm_insert R L x).getD j (0, 0)).1 < n := by
  intro j hj
  have hm : (pm_insert R L x).getD j (0, 0) ∈ pm_insert R L x := by
    rw [List.getD_eq_getElem?_getD, List.getElem?_eq_getElem hj]
    exact List.getElem_mem hj
  have hall : ∀ y ∈ L, y.1 < n := by
    intro y hy
    obtain ⟨i, hi, e⟩ := List.getElem_of_mem hy
    have := h i hi
    rw [List.getD_eq_getElem?_getD, List.getElem?_eq_getElem hi] at this
    rw [← e]
    exact this
  simp only [pm_insert, List.mem_append, List.mem_cons] at hm
  rcases hm with z | z | z
  · exact hall _ (List.mem_of_mem_take z)
  · rw [pm_insert, z]; exact hx
  · exact hall _ (List.mem_of_mem_drop z)

set_option maxHeartbeats 8000000 in
set_option maxRecDepth 100000 in
theorem metX2_make {l : Launch} {S0 : State} {D : va_G} {dA : Nat → ClassId} (hB : tf_B S0 D dA) {sz : Nat} {G : tf_Pic} {mm : Nat} {ad : Nat → Nat} {iv : Nat → Int32} {ar : Nat → Nat → Int32} {fr : Nat → Int64} (hm : mo_W dA mm ad iv ar fr G) {nT nh nc nd ne nk : Nat} {hT kf kh : Nat → Nat} (hI : mo_I iv ar nT nh nc nd ne nk hT kf kh) (hr21 : 1 ≤ ar 21 2) (wo : Int32) : Met l yX2_make (ws_ yX2_make cX2_make 5 none) (tf_rm 4 0 0) (tf_Pc S0 D sz G [.ref mm, .int wo]) (tf_Qv S0 D sz G (fun G1 => ∃ L b f g, L = pm_madeL (pm_JA ar hT nc nd nh wo 23) (pm_JA ar hT nc nd nh wo 24) hT nT nh (ar 21 2) nh ∧ pm_holds L f g ∧ mo_W dA mm ad (va_up iv 26 (nI L.length)) (pm_arM (pm_JA ar hT nc nd nh wo) b f g) fr G1)) 0 0 (tf_A G sz) := by
  refine Met.ofW (cc := cX2_make) (maxL := 5) (ret := none) (by decide) rfl ?_
  intro p e s m args below meth c s₁ B hml hv
  obtain ⟨C, hw, hr, hlk, hin, hargs⟩ := tf_enter hB B hml hv
  subst hargs
  have C : tf_C p s m ([.ref mm, .int wo] : List Value).toArray c cX2_make 5 RX2 S0 D dA := C
  have hx := C.hx
  have hb := C.hb
  change W p l e (tf_rm 4 0 0) s m ([.ref mm, .int wo] : List Value).toArray below meth c s.heap [] 0 0 (MQ below (tf_Qv S0 D sz G (fun G1 => ∃ L b f g, L = pm_madeL (pm_JA ar hT nc nd nh wo 23) (pm_JA ar hT nc nd nh wo 24) hT nT nh (ar 21 2) nh ∧ pm_holds L f g ∧ mo_W dA mm ad (va_up iv 26 (nI L.length)) (pm_arM (pm_JA ar hT nc nd nh wo) b f g) fr G1)) ([.ref mm, .int wo] : List Value).toArray s 0 0 (tf_A G sz)) (entryFrame m ([.ref mm, .int wo] : List Value).toArray 5)
  have hI0 := hI
  obtain ⟨hk2, hnT, hk5, hnh, h6, hk10, hnc, hk14, hnd, hk30, hne, hk31, hnk, h32, hkf0, hkfn, hkfs, h33⟩ := hI
  refine tf_start [.ref mm, .int wo] (Nat.le_of_ble_eq_true rfl) (fun ls hl => ?_)
  have hl : lv_has ls 5 [(0, .ref mm), (1, .int wo)] := hl
  refine lv_aload_n hx hb dX2_make_0 rfl (lv_at hl 0 rfl) ?_
  refine lv_iload_n hx hb dX2_make_1 rfl (lv_at hl 1 rfl) ?_
  refine tf_gov (tf_V (n := 1) C hw hm.1 rfl [.int wo] (metX2_join hB hm hI0 wo) (lw_V q1140 q1142 qs30 q45 q1143) rfl ⟨by decide, by decide, by decide +kernel⟩ ⟨rfl, rfl, Nat.le_of_ble_eq_true rfl, Nat.le_of_ble_eq_true rfl, (by first | exact Nat.le_of_ble_eq_true rfl | (show _ ≤ 0; omega)), (by first | exact Nat.le_of_ble_eq_true rfl | (show _ ≤ 0; omega))⟩ rfl hl rfl (Nat.le_of_ble_eq_true rfl) dX2_make_2) hw (fun G1 H locs hp1 hw => ?_)
  have hm : mo_W dA mm ad iv (pm_JA ar hT nc nd nh wo) fr G1 := hp1
  obtain ⟨ar1, har1⟩ : ∃ Z, Z = pm_JA ar hT nc nd nh wo := ⟨_, rfl⟩
  rw [← har1] at hm
  have hI1 : mo_I iv ar1 nT nh nc nd ne nk hT kf kh := by rw [har1]; exact hI0
  have h6 := hI1.2.2.2.2.1
  have h21 : ar1 21 = ar 21 := by rw [har1]; rfl
  have hm := mo_eq (pm_arM_0 ar1) hm
  refine lv_aload_n hx hb dX2_make_5 rfl (lv_at hl 0 rfl) ?_
  refine lv_iconst (v := 0) hx hb dX2_make_6 (by decide) ?_
  refine pf_X2_174 C hw hm.1 0 (Nat.le_of_ble_eq_true rfl) dX2_make_7 (mo_put hm 26 (by decide) (fun G2 H locs hm hw => ?_))
  refine lv_iconst (v := 0) hx hb dX2_make_10 (by decide) ?_
  refine lv_istore_n (lv' := [(2, .int 0), (0, .ref mm), (1, .int wo)]) hx hb dX2_make_11 rfl hl (by decide) rfl (fun ls hl => ?_)
  have b12 : ∀ (fuel : Nat) (h : Nat) (L : List (Nat × Nat)) (b f g : Nat → Int32) (Gx : tf_Pic), nh - h < fuel → (h ≤ nh) → (pm_holds L f g) → (L = pm_madeL (ar1 23) (ar1 24) hT nT nh (ar1 21 2) h) → (∀ j, j < L.length → (L.getD j (0, 0)).1 < nh) → (mo_W dA mm ad (va_up iv 26 (nI L.length)) (pm_arM ar1 b f g) fr Gx) → ∀ (H : Heap) (locs : List Loc), tf_Wd S0 D (tf_A G sz) s.heap Gx H locs → ∀ (ls : Array Slot), lv_has ls 5 [(2, .int (nI h)), (0, .ref mm), (1, .int wo)] → W p l e (tf_rm 4 0 0) s m ([.ref mm, .int wo] : List Value).toArray below meth c H locs 0 0 (MQ below (tf_Qv S0 D sz G (fun G1 => ∃ L b f g, L = pm_madeL (pm_JA ar hT nc nd nh wo 23) (pm_JA ar hT nc nd nh wo 24) hT nT nh (ar 21 2) nh ∧ pm_holds L f g ∧ mo_W dA mm ad (va_up iv 26 (nI L.length)) (pm_arM (pm_JA ar hT nc nd nh wo) b f g) fr G1)) ([.ref mm, .int wo] : List Value).toArray s 0 0 (tf_A G sz)) (F0 m 12 ls []) := by
    intro fuel12
    induction fuel12 with
    | zero => intro h L b f g Gx hfu12; exact absurd hfu12 (Nat.not_lt_zero _)
    | succ fuel12 ih12 =>
      intro h L b f g Gx hfu12 hh hL hLd hLb hm H locs hw ls hl
      have hLl : L.length ≤ h := by rw [hLd]; exact pm_made_len _ _ _ _ _ _ h
      refine lv_iload_n hx hb dX2_make_12 rfl (lv_at hl 0 rfl) ?_
      refine lv_aload_n hx hb dX2_make_13 rfl (lv_at hl 1 rfl) ?_
      refine gf_X2_107 C hw hm.1 (v := .int (nI nh)) (by rw [← hk5]; rfl) dX2_make_14 ?_
      refine tf_icmp_geN hx hb h nh rfl rfl (tgt := 207) dX2_make_17 (by decide) (by omega) (by omega) (fun c17 => ?_) (fun c17 => ?_)
      · refine tf_retv C hw hr hlk dX2_make_207 (by first | exact Nat.le_of_ble_eq_true rfl | omega) (by first | exact Nat.le_of_ble_eq_true rfl | omega) ?_
        have hhn : h = nh := by omega
        rw [hhn] at hLd
        subst har1
        exact ⟨L, b, f, g, hLd, hL, hm⟩
      · refine lv_aload_n hx hb dX2_make_20 rfl (lv_at hl 1 rfl) ?_
        refine gf_X2_58 C hw hm.1 (v := .ref (ad 23)) rfl dX2_make_21 ?_
        refine lv_iload_n hx hb dX2_make_24 rfl (lv_at hl 0 rfl) ?_
        refine mo_ald (v := ar1 23 h) C hw hm 23 (by decide) (by decide) h rfl (show h < 240 by omega) rfl dX2_make_25 ?_
        refine lv_iload_n hx hb dX2_make_26 rfl (lv_at hl 0 rfl) ?_
        refine lv_icmp_ne (tgt := 201) hx hb dX2_make_27 (by decide) (fun c27 => ?_) (fun c27 => ?_)
        · refine lv_iinc (v := nI (h + 1)) (lv' := [(2, .int (nI (h + 1))), (0, .ref mm), (1, .int wo)]) hx hb dX2_make_201 hl (k := 0) rfl (nI_1 _) (by decide) rfl (fun ls hl => ?_)
          refine lv_goto (tgt := 12) hx hb dX2_make_204 (by decide) ?_
          exact ih12 (h + 1) L b f g _ (by omega) (by omega) hL (by simp only [pm_madeL, ← hLd, if_neg c27]) hLb hm _ _ hw ls hl
        · refine lv_aload_n hx hb dX2_make_30 rfl (lv_at hl 1 rfl) ?_
          refine lv_iload_n hx hb dX2_make_31 rfl (lv_at hl 0 rfl) ?_
          refine tf_goi (tf_V (n := 1) C hw hm.1 rfl [.int (nI h)] (metX2_findBest hB hm (show mo_I (va_up iv 26 (nI L.length)) (pm_arM ar1 b f g) nT nh nc nd ne nk hT kf kh from hI1) (nI h)) (lw_V q1148 q1150 qs32 q45 q1151) rfl ⟨by decide, by decide, by decide +kernel⟩ ⟨rfl, rfl, Nat.le_of_ble_eq_true rfl, Nat.le_of_ble_eq_true rfl, (by first | exact Nat.le_of_ble_eq_true rfl | (show _ ≤ 0; omega)), (by first | exact Nat.le_of_ble_eq_true rfl | (show _ ≤ 0; omega))⟩ rfl hl rfl (Nat.le_of_ble_eq_true rfl) dX2_make_32) hw (fun r3 G3 H locs hp3 hw => ?_)
          obtain ⟨hre, b2, hb2, hm⟩ := hp3
          have hm := mo_eq (pm_arM_29 (show _ = b2 from rfl)) hm
          have hre : r3 = nI (pm_fbL (ar1 23) (ar1 24) hT (nI h) nh).2 := hre
          obtain rfl := hre.symm
          have hb2 : ∀ t, t < nT → b2 t = pm_opt ((pm_fbL (ar1 23) (ar1 24) hT (nI h) nh).1 t) := hb2
          have hfbl := pm_fb_lt (ar1 23) (ar1 24) hT (nI h) nh
          have hfbn := pm_fb_n (ar1 23) (ar1 24) hT (nI h) nh
          refine lv_aload_n hx hb dX2_make_35 rfl (lv_at hl 1 rfl) ?_
          refine gf_X2_55 C hw hm.1 (v := .ref (ad 21)) rfl dX2_make_36 ?_
          refine lv_iconst (v := 2) hx hb dX2_make_39 (by decide) ?_
          refine mo_ald (v := ar1 21 2) C hw hm 21 (by decide) (by decide) 2 rfl (show 2 < 4 by omega) rfl dX2_make_40 ?_
          refine lv_icmp_ge (tgt := 47) hx hb dX2_make_41 (by decide) (fun c41 => ?_) (fun c41 => ?_)
          · refine lv_bipush (v := (-9)) hx hb dX2_make_47 (by decide) ?_
            refine lv_istore_n (lv' := [(3, .int ((-9))), (2, .int (nI h)), (0, .ref mm), (1, .int wo)]) hx hb dX2_make_49 rfl hl (by decide) rfl (fun ls hl => ?_)
            refine lv_iconst (v := 0) hx hb dX2_make_50 (by decide) ?_
            refine lv_istore (lv' := [(4, .int 0), (3, .int ((-9))), (2, .int (nI h)), (0, .ref mm), (1, .int wo)]) hx hb dX2_make_51 hl (by decide) rfl (fun ls hl => ?_)
            have b53 : ∀ (fuel : Nat) (t : Nat) (fo : Option Nat), nT - t < fuel → (t ≤ nT) → (fo = pm_fstL (ar1 24) (pm_fbL (ar1 23) (ar1 24) hT (nI h) nh).1 t) → ∀ (H : Heap) (locs : List Loc), tf_Wd S0 D (tf_A G sz) s.heap G3 H locs → ∀ (ls : Array Slot), lv_has ls 5 [(4, .int (nI t)), (3, .int (pm_opt fo)), (2, .int (nI h)), (0, .ref mm), (1, .int wo)] → W p l e (tf_rm 4 0 0) s m ([.ref mm, .int wo] : List Value).toArray below meth c H locs 0 0 (MQ below (tf_Qv S0 D sz G (fun G1 => ∃ L b f g, L = pm_madeL (pm_JA ar hT nc nd nh wo 23) (pm_JA ar hT nc nd nh wo 24) hT nT nh (ar 21 2) nh ∧ pm_holds L f g ∧ mo_W dA mm ad (va_up iv 26 (nI L.length)) (pm_arM (pm_JA ar hT nc nd nh wo) b f g) fr G1)) ([.ref mm, .int wo] : List Value).toArray s 0 0 (tf_A G sz)) (F0 m 53 ls []) := by
              intro fuel53
              induction fuel53 with
              | zero => intro t fo hfu53; exact absurd hfu53 (Nat.not_lt_zero _)
              | succ fuel53 ih53 =>
                intro t fo hfu53 ht hfo H locs hw ls hl
                refine lv_iload hx hb dX2_make_53 (lv_at hl 0 rfl) ?_
                refine lv_aload_n hx hb dX2_make_55 rfl (lv_at hl 3 rfl) ?_
                refine gf_X2_104 C hw hm.1 (v := .int (nI nT)) (by rw [← hk2]; rfl) dX2_make_56 ?_
                refine tf_icmp_geN hx hb t nT rfl rfl (tgt := 109) dX2_make_59 (by decide) (by omega) (by omega) (fun c59 => ?_) (fun c59 => ?_)
                · have htn : t = nT := by omega
                  rw [htn] at hfo
                  have hr2 : 0 < (pm_fbL (ar1 23) (ar1 24) hT (nI h) nh).2 := Nat.pos_of_ne_zero (fun z => by rw [z, h21] at c41; exact absurd (Int32.le_trans hr21 c41) (by decide))
                  obtain ⟨t1, b1, ht1, hb1⟩ := pm_fb_some (ar1 23) (ar1 24) hT (nI h) (nT := nT) nh (fun u hu => (h6 u hu).2) hr2
                  obtain ⟨a1, ha1⟩ := pm_fst_some (ar1 24) (pm_fbL (ar1 23) (ar1 24) hT (nI h) nh).1 hb1 nT ht1
                  rw [ha1] at hfo
                  subst hfo
                  have hal1 : a1 < nh := pm_fst_lt (ar1 24) (pm_fbL (ar1 23) (ar1 24) hT (nI h) nh).1 hfbl nT a1 ha1
                  have hl : lv_has ls 5 [(4, .int (nI t)), (3, .int (nI a1)), (2, .int (nI h)), (0, .ref mm), (1, .int wo)] := hl
                  have hm := mo_eq (show pm_arM ar1 b2 f g = pm_arM ar1 b2 (pm_shift f L.length L.length) (pm_shift g L.length L.length) by rw [← pm_shift0, ← pm_shift0]) hm
                  refine lv_aload_n hx hb dX2_make_109 rfl (lv_at hl 3 rfl) ?_
                  refine gf_X2_174 C hw hm.1 (v := .int (nI L.length)) rfl dX2_make_110 ?_
                  refine lv_istore (lv' := [(4, .int (nI L.length)), (3, .int (nI a1)), (2, .int (nI h)), (0, .ref mm), (1, .int wo)]) hx hb dX2_make_113 hl (by decide) rfl (fun ls hl => ?_)
                  have b115 : ∀ (fuel : Nat) (p0 : Nat) (Gx : tf_Pic), p0 < fuel → (p0 ≤ L.length) → (pm_pos (ar1 24) L a1 L.length = pm_pos (ar1 24) L a1 p0) → (mo_W dA mm ad (va_up iv 26 (nI L.length)) (pm_arM ar1 b2 (pm_shift f p0 L.length) (pm_shift g p0 L.length)) fr Gx) → ∀ (H : Heap) (locs : List Loc), tf_Wd S0 D (tf_A G sz) s.heap Gx H locs → ∀ (ls : Array Slot), lv_has ls 5 [(4, .int (nI p0)), (3, .int (nI a1)), (2, .int (nI h)), (0, .ref mm), (1, .int wo)] → W p l e (tf_rm 4 0 0) s m ([.ref mm, .int wo] : List Value).toArray below meth c H locs 0 0 (MQ below (tf_Qv S0 D sz G (fun G1 => ∃ L b f g, L = pm_madeL (pm_JA ar hT nc nd nh wo 23) (pm_JA ar hT nc nd nh wo 24) hT nT nh (ar 21 2) nh ∧ pm_holds L f g ∧ mo_W dA mm ad (va_up iv 26 (nI L.length)) (pm_arM (pm_JA ar hT nc nd nh wo) b f g) fr G1)) ([.ref mm, .int wo] : List Value).toArray s 0 0 (tf_A G sz)) (F0 m 115 ls []) := by
                    intro fuel115
                    induction fuel115 with
                    | zero => intro p0 Gx hfu115; exact absurd hfu115 (Nat.not_lt_zero _)
                    | succ fuel115 ih115 =>
                      intro p0 Gx hfu115 hp hpp hm H locs hw ls hl
                      refine lv_iload hx hb dX2_make_115 (lv_at hl 0 rfl) ?_
                      refine lv_if_le (tgt := 175) hx hb dX2_make_117 (by decide) (fun c117 => ?_) (fun c117 => ?_)
                      · have hp00 : p0 = 0 := tf_le0 (by omega) c117
                        have hpe : p0 = pm_pos (ar1 24) L a1 L.length := by rw [hpp, hp00]; rfl
                        refine lv_aload_n hx hb dX2_make_175 rfl (lv_at hl 3 rfl) ?_
                        refine gf_X2_70 C hw hm.1 (v := .ref (ad 28)) rfl dX2_make_176 ?_
                        refine lv_iload hx hb dX2_make_179 (lv_at hl 0 rfl) ?_
                        refine lv_iload_n hx hb dX2_make_181 rfl (lv_at hl 1 rfl) ?_
                        refine mo_ast C hw hm 28 (by decide) (by decide) (pm_shift f p0 L.length) rfl p0 rfl (show p0 < 240 by omega) dX2_make_182 (fun G4 H locs hm hw => ?_)
                        have hm := mo_eq (pm_arM_28 (show _ = upd (pm_shift f p0 L.length) p0 (nI a1) from rfl)) hm
                        refine lv_aload_n hx hb dX2_make_183 rfl (lv_at hl 3 rfl) ?_
                        refine gf_X2_67 C hw hm.1 (v := .ref (ad 27)) rfl dX2_make_184 ?_
                        refine lv_iload hx hb dX2_make_187 (lv_at hl 0 rfl) ?_
                        refine lv_iload_n hx hb dX2_make_189 rfl (lv_at hl 2 rfl) ?_
                        refine mo_ast C hw hm 27 (by decide) (by decide) (pm_shift g p0 L.length) rfl p0 rfl (show p0 < 240 by omega) dX2_make_190 (fun G5 H locs hm hw => ?_)
                        have hm := mo_eq (pm_arM_27 (show _ = upd (pm_shift g p0 L.length) p0 (nI h) from rfl)) hm
                        refine lv_aload_n hx hb dX2_make_191 rfl (lv_at hl 3 rfl) ?_
                        refine lv_dup hx hb dX2_make_192 rfl ?_
                        refine gf_X2_174 C hw hm.1 (v := .int (nI L.length)) rfl dX2_make_193 ?_
                        refine lv_iconst (v := 1) hx hb dX2_make_196 (by decide) ?_
                        refine tf_iaddN hx hb L.length 1 rfl rfl dX2_make_197 ?_
                        refine pf_X2_174 C hw hm.1 (nI (L.length + 1)) (Nat.le_of_ble_eq_true rfl) dX2_make_198 (mo_put hm 26 (by decide) (fun G6 H locs hm hw => ?_))
                        have hL2 := pm_holds_ins (R := ar1 24) (a1, h) hL (p := p0) hpe
                        have hLd2 : pm_insert (ar1 24) L (a1, h) = pm_madeL (ar1 23) (ar1 24) hT nT nh (ar1 21 2) (h + 1) := by simp only [pm_madeL, ← hLd, if_pos c27, if_pos c41, ha1, Option.getD_some]
                        have hLb2 : ∀ j, j < (pm_insert (ar1 24) L (a1, h)).length → ((pm_insert (ar1 24) L (a1, h)).getD j (0, 0)).1 < nh := pm_ins_lt (ar1 24) L (a1, h) hLb hal1
                        have hm := mo_eqi (show va_up (va_up iv 26 (nI L.length)) 26 (nI (L.length + 1)) = va_up iv 26 (nI (pm_insert (ar1 24) L (a1, h)).length) by rw [pm_insert_len]; exact bx_uu _ _ _ _) hm
                        refine lv_iinc (v := nI (h + 1)) (lv' := [(2, .int (nI (h + 1))), (4, .int (nI p0)), (3, .int (nI a1)), (0, .ref mm), (1, .int wo)]) hx hb dX2_make_201 hl (k := 2) rfl (nI_1 _) (by decide) rfl (fun ls hl => ?_)
                        refine lv_goto (tgt := 12) hx hb dX2_make_204 (by decide) ?_
                        exact ih12 (h + 1) _ _ _ _ _ (by omega) (by omega) hL2 hLd2 hLb2 hm _ _ hw ls (lv_sub hl [0, 3, 4] rfl)
                      · have hp1 : p0 ≠ 0 := fun z => c117 (by rw [z]; decide)
                        obtain ⟨q, hq⟩ : ∃ q, p0 = q + 1 := ⟨p0 - 1, by omega⟩
                        subst hq
                        have hLq := hL q (by omega)
                        have hLn := hLb q (by omega)
                        refine lv_aload_n hx hb dX2_make_120 rfl (lv_at hl 3 rfl) ?_
                        refine lv_iload_n hx hb dX2_make_121 rfl (lv_at hl 1 rfl) ?_
                        refine lv_aload_n hx hb dX2_make_122 rfl (lv_at hl 3 rfl) ?_
                        refine gf_X2_70 C hw hm.1 (v := .ref (ad 28)) rfl dX2_make_123 ?_
                        refine lv_iload hx hb dX2_make_126 (lv_at hl 0 rfl) ?_
                        refine lv_iconst (v := 1) hx hb dX2_make_128 (by decide) ?_
                        refine lv_isub hx hb dX2_make_129 ?_
                        refine mo_ald (v := nI ((L.getD q (0, 0)).1)) C hw hm 28 (by decide) (by decide) q (nI_pred q) (show q < 240 by omega) (by rw [← hLq.1]; exact pm_shift_at f (by omega)) dX2_make_130 ?_
                        refine tf_goi (tf_V (n := 2) C hw hm.1 rfl [.int (nI a1), .int (nI ((L.getD q (0, 0)).1))] (metX2_isAhead hB hm (u := a1) (v := (L.getD q (0, 0)).1) (by omega) (by omega)) (lw_V q1152 q1154 qs33 q45 q1155) rfl ⟨by decide, by decide, by decide +kernel⟩ ⟨rfl, rfl, Nat.le_of_ble_eq_true rfl, Nat.le_of_ble_eq_true rfl, (by first | exact Nat.le_of_ble_eq_true rfl | (show _ ≤ 0; omega)), (by first | exact Nat.le_of_ble_eq_true rfl | (show _ ≤ 0; omega))⟩ rfl hl rfl (Nat.le_of_ble_eq_true rfl) dX2_make_131) hw (fun r7 G7 H locs hp7 hw => ?_)
                        obtain ⟨hre, hGe⟩ := hp7
                        have hre : r7 = pt_b (pm_ahead (ar1 24) a1 ((L.getD q (0, 0)).1)) := hre
                        obtain rfl := hre.symm
                        obtain rfl := hGe.symm
                        refine lv_if_eq (tgt := 175) hx hb dX2_make_134 (by decide) (fun c134 => ?_) (fun c134 => ?_)
                        · replace c134 := pt_b0 c134
                          have hpe : q + 1 = pm_pos (ar1 24) L a1 L.length := by rw [hpp]; simp only [pm_pos, c134, Bool.false_eq_true, if_false]
                          refine lv_aload_n hx hb dX2_make_175 rfl (lv_at hl 3 rfl) ?_
                          refine gf_X2_70 C hw hm.1 (v := .ref (ad 28)) rfl dX2_make_176 ?_
                          refine lv_iload hx hb dX2_make_179 (lv_at hl 0 rfl) ?_
                          refine lv_iload_n hx hb dX2_make_181 rfl (lv_at hl 1 rfl) ?_
                          refine mo_ast C hw hm 28 (by decide) (by decide) (pm_shift f (q + 1) L.length) rfl (q + 1) rfl (show q + 1 < 240 by omega) dX2_make_182 (fun G8 H locs hm hw => ?_)
                          have hm := mo_eq (pm_arM_28 (show _ = upd (pm_shift f (q + 1) L.length) (q + 1) (nI a1) from rfl)) hm
                          refine lv_aload_n hx hb dX2_make_183 rfl (lv_at hl 3 rfl) ?_
                          refine gf_X2_67 C hw hm.1 (v := .ref (ad 27)) rfl dX2_make_184 ?_
                          refine lv_iload hx hb dX2_make_187 (lv_at hl 0 rfl) ?_
                          refine lv_iload_n hx hb dX2_make_189 rfl (lv_at hl 2 rfl) ?_
                          refine mo_ast C hw hm 27 (by decide) (by decide) (pm_shift g (q + 1) L.length) rfl (q + 1) rfl (show q + 1 < 240 by omega) dX2_make_190 (fun G9 H locs hm hw => ?_)
                          have hm := mo_eq (pm_arM_27 (show _ = upd (pm_shift g (q + 1) L.length) (q + 1) (nI h) from rfl)) hm
                          refine lv_aload_n hx hb dX2_make_191 rfl (lv_at hl 3 rfl) ?_
                          refine lv_dup hx hb dX2_make_192 rfl ?_
                          refine gf_X2_174 C hw hm.1 (v := .int (nI L.length)) rfl dX2_make_193 ?_
                          refine lv_iconst (v := 1) hx hb dX2_make_196 (by decide) ?_
                          refine tf_iaddN hx hb L.length 1 rfl rfl dX2_make_197 ?_
                          refine pf_X2_174 C hw hm.1 (nI (L.length + 1)) (Nat.le_of_ble_eq_true rfl) dX2_make_198 (mo_put hm 26 (by decide) (fun G10 H locs hm hw => ?_))
                          have hL2 := pm_holds_ins (R := ar1 24) (a1, h) hL (p := q + 1) hpe
                          have hLd2 : pm_insert (ar1 24) L (a1, h) = pm_madeL (ar1 23) (ar1 24) hT nT nh (ar1 21 2) (h + 1) := by simp only [pm_madeL, ← hLd, if_pos c27, if_pos c41, ha1, Option.getD_some]
                          have hLb2 : ∀ j, j < (pm_insert (ar1 24) L (a1, h)).length → ((pm_insert (ar1 24) L (a1, h)).getD j (0, 0)).1 < nh := pm_ins_lt (ar1 24) L (a1, h) hLb hal1
                          have hm := mo_eqi (show va_up (va_up iv 26 (nI L.length)) 26 (nI (L.length + 1)) = va_up iv 26 (nI (pm_insert (ar1 24) L (a1, h)).length) by rw [pm_insert_len]; exact bx_uu _ _ _ _) hm
                          refine lv_iinc (v := nI (h + 1)) (lv' := [(2, .int (nI (h + 1))), (4, .int (nI (q + 1))), (3, .int (nI a1)), (0, .ref mm), (1, .int wo)]) hx hb dX2_make_201 hl (k := 2) rfl (nI_1 _) (by decide) rfl (fun ls hl => ?_)
                          refine lv_goto (tgt := 12) hx hb dX2_make_204 (by decide) ?_
                          exact ih12 (h + 1) _ _ _ _ _ (by omega) (by omega) hL2 hLd2 hLb2 hm _ _ hw ls (lv_sub hl [0, 3, 4] rfl)
                        · replace c134 := pt_b1 c134
                          refine lv_aload_n hx hb dX2_make_137 rfl (lv_at hl 3 rfl) ?_
                          refine gf_X2_70 C hw hm.1 (v := .ref (ad 28)) rfl dX2_make_138 ?_
                          refine lv_iload hx hb dX2_make_141 (lv_at hl 0 rfl) ?_
                          refine lv_aload_n hx hb dX2_make_143 rfl (lv_at hl 3 rfl) ?_
                          refine gf_X2_70 C hw hm.1 (v := .ref (ad 28)) rfl dX2_make_144 ?_
                          refine lv_iload hx hb dX2_make_147 (lv_at hl 0 rfl) ?_
                          refine lv_iconst (v := 1) hx hb dX2_make_149 (by decide) ?_
                          refine lv_isub hx hb dX2_make_150 ?_
                          refine mo_ald (v := nI ((L.getD q (0, 0)).1)) C hw hm 28 (by decide) (by decide) q (nI_pred q) (show q < 240 by omega) (by rw [← hLq.1]; exact pm_shift_at f (by omega)) dX2_make_151 ?_
                          refine mo_ast C hw hm 28 (by decide) (by decide) (pm_shift f (q + 1) L.length) rfl (q + 1) rfl (show q + 1 < 240 by omega) dX2_make_152 (fun G11 H locs hm hw => ?_)
                          have hm := mo_eq (pm_arM_28 (show _ = upd (pm_shift f (q + 1) L.length) (q + 1) (nI ((L.getD q (0, 0)).1)) from rfl)) hm
                          refine lv_aload_n hx hb dX2_make_153 rfl (lv_at hl 3 rfl) ?_
                          refine gf_X2_67 C hw hm.1 (v := .ref (ad 27)) rfl dX2_make_154 ?_
                          refine lv_iload hx hb dX2_make_157 (lv_at hl 0 rfl) ?_
                          refine lv_aload_n hx hb dX2_make_159 rfl (lv_at hl 3 rfl) ?_
                          refine gf_X2_67 C hw hm.1 (v := .ref (ad 27)) rfl dX2_make_160 ?_
                          refine lv_iload hx hb dX2_make_163 (lv_at hl 0 rfl) ?_
                          refine lv_iconst (v := 1) hx hb dX2_make_165 (by decide) ?_
                          refine lv_isub hx hb dX2_make_166 ?_
                          refine mo_ald (v := nI ((L.getD q (0, 0)).2)) C hw hm 27 (by decide) (by decide) q (nI_pred q) (show q < 240 by omega) (by rw [← hLq.2]; exact pm_shift_at g (by omega)) dX2_make_167 ?_
                          refine mo_ast C hw hm 27 (by decide) (by decide) (pm_shift g (q + 1) L.length) rfl (q + 1) rfl (show q + 1 < 240 by omega) dX2_make_168 (fun G12 H locs hm hw => ?_)
                          have hm := mo_eq (pm_arM_27 (show _ = upd (pm_shift g (q + 1) L.length) (q + 1) (nI ((L.getD q (0, 0)).2)) from rfl)) hm
                          have hm := mo_eq (show pm_arM ar1 b2 _ _ = pm_arM ar1 b2 (pm_shift f q L.length) (pm_shift g q L.length) by rw [pm_shift1 f (by omega) hLq.1.symm, pm_shift1 g (by omega) hLq.2.symm]) hm
                          refine lv_iinc (v := nI q) (lv' := [(4, .int (nI q)), (3, .int (nI a1)), (2, .int (nI h)), (0, .ref mm), (1, .int wo)]) hx hb dX2_make_169 hl (k := 0) rfl (by rw [tf_m1, nI_pred]) (by decide) rfl (fun ls hl => ?_)
                          refine lv_goto (tgt := 115) hx hb dX2_make_172 (by decide) ?_
                          exact ih115 q _ (by omega) (by omega) (by rw [hpp]; simp only [pm_pos, c134, if_true]) hm _ _ hw ls hl
                  exact b115 (L.length + 1) L.length _ (by omega) (Nat.le_refl _) rfl hm _ _ hw ls hl
                · rcases hbt : (pm_fbL (ar1 23) (ar1 24) hT (nI h) nh).1 t with _ | b0 <;> rcases fo with _ | a0
                  · have hbv := hb2 t (by omega)
                    rw [hbt] at hbv
                    have hbv : b2 t = -9 := hbv
                    have hl : lv_has ls 5 [(4, .int (nI t)), (3, .int ((-9))), (2, .int (nI h)), (0, .ref mm), (1, .int wo)] := hl
                    refine lv_aload_n hx hb dX2_make_62 rfl (lv_at hl 3 rfl) ?_
                    refine gf_X2_73 C hw hm.1 (v := .ref (ad 29)) rfl dX2_make_63 ?_
                    refine lv_iload hx hb dX2_make_66 (lv_at hl 0 rfl) ?_
                    refine mo_ald (v := (-9)) C hw hm 29 (by decide) (by decide) t rfl (show t < 30 by omega) hbv dX2_make_68 ?_
                    refine lv_bipush (v := (-9)) hx hb dX2_make_69 (by decide) ?_
                    refine lv_icmp_eq (tgt := 103) hx hb dX2_make_71 (by decide) (fun c71 => ?_) (fun c71 => absurd c71 (not_not_intro rfl))
                    refine lv_iinc (v := nI (t + 1)) (lv' := [(4, .int (nI (t + 1))), (3, .int ((-9))), (2, .int (nI h)), (0, .ref mm), (1, .int wo)]) hx hb dX2_make_103 hl (k := 0) rfl (nI_1 _) (by decide) rfl (fun ls hl => ?_)
                    refine lv_goto (tgt := 53) hx hb dX2_make_106 (by decide) ?_
                    exact ih53 (t + 1) none (by omega) (by omega) (by simp only [pm_fstL, hbt, ← hfo]) _ _ hw ls hl
                  · have hbv := hb2 t (by omega)
                    rw [hbt] at hbv
                    have hbv : b2 t = -9 := hbv
                    have hl : lv_has ls 5 [(4, .int (nI t)), (3, .int (nI a0)), (2, .int (nI h)), (0, .ref mm), (1, .int wo)] := hl
                    have hal : a0 < nh := pm_fst_lt (ar1 24) (pm_fbL (ar1 23) (ar1 24) hT (nI h) nh).1 hfbl t a0 hfo.symm
                    refine lv_aload_n hx hb dX2_make_62 rfl (lv_at hl 3 rfl) ?_
                    refine gf_X2_73 C hw hm.1 (v := .ref (ad 29)) rfl dX2_make_63 ?_
                    refine lv_iload hx hb dX2_make_66 (lv_at hl 0 rfl) ?_
                    refine mo_ald (v := (-9)) C hw hm 29 (by decide) (by decide) t rfl (show t < 30 by omega) hbv dX2_make_68 ?_
                    refine lv_bipush (v := (-9)) hx hb dX2_make_69 (by decide) ?_
                    refine lv_icmp_eq (tgt := 103) hx hb dX2_make_71 (by decide) (fun c71 => ?_) (fun c71 => absurd c71 (not_not_intro rfl))
                    refine lv_iinc (v := nI (t + 1)) (lv' := [(4, .int (nI (t + 1))), (3, .int (nI a0)), (2, .int (nI h)), (0, .ref mm), (1, .int wo)]) hx hb dX2_make_103 hl (k := 0) rfl (nI_1 _) (by decide) rfl (fun ls hl => ?_)
                    refine lv_goto (tgt := 53) hx hb dX2_make_106 (by decide) ?_
                    exact ih53 (t + 1) (some a0) (by omega) (by omega) (by simp only [pm_fstL, hbt, ← hfo]) _ _ hw ls hl
                  · have hbv := hb2 t (by omega)
                    rw [hbt] at hbv
                    have hbv : b2 t = nI b0 := hbv
                    have hl : lv_has ls 5 [(4, .int (nI t)), (3, .int ((-9))), (2, .int (nI h)), (0, .ref mm), (1, .int wo)] := hl
                    have hbl := hfbl t b0 hbt
                    refine lv_aload_n hx hb dX2_make_62 rfl (lv_at hl 3 rfl) ?_
                    refine gf_X2_73 C hw hm.1 (v := .ref (ad 29)) rfl dX2_make_63 ?_
                    refine lv_iload hx hb dX2_make_66 (lv_at hl 0 rfl) ?_
                    refine mo_ald (v := nI b0) C hw hm 29 (by decide) (by decide) t rfl (show t < 30 by omega) hbv dX2_make_68 ?_
                    refine lv_bipush (v := (-9)) hx hb dX2_make_69 (by decide) ?_
                    refine lv_icmp_eq (tgt := 103) hx hb dX2_make_71 (by decide) (fun c71 => absurd c71 (pm_n9 (by omega))) (fun c71 => ?_)
                    refine lv_iload_n hx hb dX2_make_74 rfl (lv_at hl 1 rfl) ?_
                    refine lv_bipush (v := (-9)) hx hb dX2_make_75 (by decide) ?_
                    refine lv_icmp_eq (tgt := 95) hx hb dX2_make_77 (by decide) (fun c77 => ?_) (fun c77 => absurd c77 (not_not_intro rfl))
                    refine lv_aload_n hx hb dX2_make_95 rfl (lv_at hl 3 rfl) ?_
                    refine gf_X2_73 C hw hm.1 (v := .ref (ad 29)) rfl dX2_make_96 ?_
                    refine lv_iload hx hb dX2_make_99 (lv_at hl 0 rfl) ?_
                    refine mo_ald (v := nI b0) C hw hm 29 (by decide) (by decide) t rfl (show t < 30 by omega) hbv dX2_make_101 ?_
                    refine lv_istore_n (lv' := [(3, .int (nI b0)), (4, .int (nI t)), (2, .int (nI h)), (0, .ref mm), (1, .int wo)]) hx hb dX2_make_102 rfl hl (by decide) rfl (fun ls hl => ?_)
                    refine lv_iinc (v := nI (t + 1)) (lv' := [(4, .int (nI (t + 1))), (3, .int (nI b0)), (2, .int (nI h)), (0, .ref mm), (1, .int wo)]) hx hb dX2_make_103 hl (k := 1) rfl (nI_1 _) (by decide) rfl (fun ls hl => ?_)
                    refine lv_goto (tgt := 53) hx hb dX2_make_106 (by decide) ?_
                    exact ih53 (t + 1) (some b0) (by omega) (by omega) (by simp only [pm_fstL, hbt, ← hfo]) _ _ hw ls hl
                  · have hbv := hb2 t (by omega)
                    rw [hbt] at hbv
                    have hbv : b2 t = nI b0 := hbv
                    have hl : lv_has ls 5 [(4, .int (nI t)), (3, .int (nI a0)), (2, .int (nI h)), (0, .ref mm), (1, .int wo)] := hl
                    have hbl := hfbl t b0 hbt
                    have hal : a0 < nh := pm_fst_lt (ar1 24) (pm_fbL (ar1 23) (ar1 24) hT (nI h) nh).1 hfbl t a0 hfo.symm
                    refine lv_aload_n hx hb dX2_make_62 rfl (lv_at hl 3 rfl) ?_
                    refine gf_X2_73 C hw hm.1 (v := .ref (ad 29)) rfl dX2_make_63 ?_
                    refine lv_iload hx hb dX2_make_66 (lv_at hl 0 rfl) ?_
                    refine mo_ald (v := nI b0) C hw hm 29 (by decide) (by decide) t rfl (show t < 30 by omega) hbv dX2_make_68 ?_
                    refine lv_bipush (v := (-9)) hx hb dX2_make_69 (by decide) ?_
                    refine lv_icmp_eq (tgt := 103) hx hb dX2_make_71 (by decide) (fun c71 => absurd c71 (pm_n9 (by omega))) (fun c71 => ?_)
                    refine lv_iload_n hx hb dX2_make_74 rfl (lv_at hl 1 rfl) ?_
                    refine lv_bipush (v := (-9)) hx hb dX2_make_75 (by decide) ?_
                    refine lv_icmp_eq (tgt := 95) hx hb dX2_make_77 (by decide) (fun c77 => absurd c77 (pm_n9 (by omega))) (fun c77 => ?_)
                    refine lv_aload_n hx hb dX2_make_80 rfl (lv_at hl 3 rfl) ?_
                    refine lv_aload_n hx hb dX2_make_81 rfl (lv_at hl 3 rfl) ?_
                    refine gf_X2_73 C hw hm.1 (v := .ref (ad 29)) rfl dX2_make_82 ?_
                    refine lv_iload hx hb dX2_make_85 (lv_at hl 0 rfl) ?_
                    refine mo_ald (v := nI b0) C hw hm 29 (by decide) (by decide) t rfl (show t < 30 by omega) hbv dX2_make_87 ?_
                    refine lv_iload_n hx hb dX2_make_88 rfl (lv_at hl 1 rfl) ?_
                    refine tf_goi (tf_V (n := 2) C hw hm.1 rfl [.int (nI b0), .int (nI a0)] (metX2_isAhead hB hm (u := b0) (v := a0) (by omega) (by omega)) (lw_V q1152 q1154 qs33 q45 q1155) rfl ⟨by decide, by decide, by decide +kernel⟩ ⟨rfl, rfl, Nat.le_of_ble_eq_true rfl, Nat.le_of_ble_eq_true rfl, (by first | exact Nat.le_of_ble_eq_true rfl | (show _ ≤ 0; omega)), (by first | exact Nat.le_of_ble_eq_true rfl | (show _ ≤ 0; omega))⟩ rfl hl rfl (Nat.le_of_ble_eq_true rfl) dX2_make_89) hw (fun r13 G13 H locs hp13 hw => ?_)
                    obtain ⟨hre, hGe⟩ := hp13
                    have hre : r13 = pt_b (pm_ahead (ar1 24) b0 a0) := hre
                    obtain rfl := hre.symm
                    obtain rfl := hGe.symm
                    refine lv_if_eq (tgt := 103) hx hb dX2_make_92 (by decide) (fun c92 => ?_) (fun c92 => ?_)
                    · replace c92 := pt_b0 c92
                      refine lv_iinc (v := nI (t + 1)) (lv' := [(4, .int (nI (t + 1))), (3, .int (nI a0)), (2, .int (nI h)), (0, .ref mm), (1, .int wo)]) hx hb dX2_make_103 hl (k := 0) rfl (nI_1 _) (by decide) rfl (fun ls hl => ?_)
                      refine lv_goto (tgt := 53) hx hb dX2_make_106 (by decide) ?_
                      exact ih53 (t + 1) (some a0) (by omega) (by omega) (by simp only [pm_fstL, hbt, ← hfo, c92, Bool.false_eq_true, if_false]) _ _ hw ls hl
                    · replace c92 := pt_b1 c92
                      refine lv_aload_n hx hb dX2_make_95 rfl (lv_at hl 3 rfl) ?_
                      refine gf_X2_73 C hw hm.1 (v := .ref (ad 29)) rfl dX2_make_96 ?_
                      refine lv_iload hx hb dX2_make_99 (lv_at hl 0 rfl) ?_
                      refine mo_ald (v := nI b0) C hw hm 29 (by decide) (by decide) t rfl (show t < 30 by omega) hbv dX2_make_101 ?_
                      refine lv_istore_n (lv' := [(3, .int (nI b0)), (4, .int (nI t)), (2, .int (nI h)), (0, .ref mm), (1, .int wo)]) hx hb dX2_make_102 rfl hl (by decide) rfl (fun ls hl => ?_)
                      refine lv_iinc (v := nI (t + 1)) (lv' := [(4, .int (nI (t + 1))), (3, .int (nI b0)), (2, .int (nI h)), (0, .ref mm), (1, .int wo)]) hx hb dX2_make_103 hl (k := 1) rfl (nI_1 _) (by decide) rfl (fun ls hl => ?_)
                      refine lv_goto (tgt := 53) hx hb dX2_make_106 (by decide) ?_
                      exact ih53 (t + 1) (some b0) (by omega) (by omega) (by simp only [pm_fstL, hbt, ← hfo, c92, if_true]) _ _ hw ls hl
            exact b53 (nT + 1) 0 none (by omega) (by omega) rfl _ _ hw ls hl
          · refine lv_goto (tgt := 201) hx hb dX2_make_44 (by decide) ?_
            refine lv_iinc (v := nI (h + 1)) (lv' := [(2, .int (nI (h + 1))), (0, .ref mm), (1, .int wo)]) hx hb dX2_make_201 hl (k := 0) rfl (nI_1 _) (by decide) rfl (fun ls hl => ?_)
            refine lv_goto (tgt := 12) hx hb dX2_make_204 (by decide) ?_
            exact ih12 (h + 1) L b2 f g _ (by omega) (by omega) hL (by simp only [pm_madeL, ← hLd, if_pos c27, if_neg c41]) hLb hm _ _ hw ls hl
  exact b12 (nh + 1) 0 [] (ar1 29) (ar1 28) (ar1 27) _ (by omega) (by omega) (fun j hj => absurd hj (Nat.not_lt_zero _)) rfl (fun j hj => absurd hj (Nat.not_lt_zero _)) hm _ _ hw ls hl
