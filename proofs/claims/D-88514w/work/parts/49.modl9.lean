/-! MODULE TankFieldModel, part 9: the best of each tank; events in their order -/
set_option maxRecDepth 100000
/-- of the first h hits: by tanks the best of the group gp, and how many tanks -/
def pm_fbL (gr R : Nat → Int32) (hT : Nat → Nat) (gp : Int32) : Nat → (Nat → Option Nat) × Nat
  | 0 => (fun _ => none, 0)
  | h + 1 => if gr h = gp then (match (pm_fbL gr R hT gp h).1 (hT h) with
      | none => (va_up (pm_fbL gr R hT gp h).1 (hT h) (some h), (pm_fbL gr R hT gp h).2 + 1)
      | some b => if R b ≤ R h then pm_fbL gr R hT gp h else (va_up (pm_fbL gr R hT gp h).1 (hT h) (some h), (pm_fbL gr R hT gp h).2)) else pm_fbL gr R hT gp h
theorem pm_fb_n (gr R : Nat → Int32) (hT : Nat → Nat) (gp : Int32) : ∀ h, (pm_fbL gr R hT gp h).2 ≤ h := by
  intro h
  induction h with
  | zero => exact Nat.le_refl _
  | succ h ih =>
    simp only [pm_fbL]
    split
    · split
      · show _ + 1 ≤ h + 1; omega
      · split
        · omega
        · show _ ≤ h + 1; omega
    · omega
theorem pm_fb_lt (gr R : Nat → Int32) (hT : Nat → Nat) (gp : Int32) : ∀ h t b, (pm_fbL gr R hT gp h).1 t = some b → b < h := by
  intro h
  induction h with
  | zero => intro t b e; cases e
  | succ h ih =>
    intro t b e
    have up : ∀ f : Nat → Option Nat, (∀ t b, f t = some b → b < h) → va_up f (hT h) (some h) t = some b → b < h + 1 := by
      intro f hf e
      by_cases z : t = hT h
      · rw [z, va_up_self] at e
        cases e
        omega
      · rw [va_up_ne _ _ z] at e
        have := hf t b e
        omega
    simp only [pm_fbL] at e
    split at e
    · split at e
      · exact up _ ih e
      · split at e
        · have := ih t b e; omega
        · exact up _ ih e
    · have := ih t b e
      omega
theorem pm_fb_some (gr R : Nat → Int32) (hT : Nat → Nat) (gp : Int32) {nT : Nat} : ∀ h, (∀ u, u < h → hT u < nT) → 0 < (pm_fbL gr R hT gp h).2 → ∃ t b, t < nT ∧ (pm_fbL gr R hT gp h).1 t = some b := by
  intro h
  induction h with
  | zero => intro _ e; exact absurd e (Nat.lt_irrefl 0)
  | succ h ih =>
    intro hu e
    simp only [pm_fbL] at e ⊢
    by_cases hg : gr h = gp
    · rw [if_pos hg]
      cases hb : (pm_fbL gr R hT gp h).1 (hT h) with
      | none => exact ⟨hT h, h, hu h (by omega), va_up_self _ _ _⟩
      | some b =>
        by_cases hr : R b ≤ R h
        · exact ⟨hT h, b, hu h (by omega), by simp only [if_pos hr]; exact hb⟩
        · exact ⟨hT h, h, hu h (by omega), by simp only [if_neg hr]; exact va_up_self _ _ _⟩
    · rw [if_neg hg] at e ⊢
      exact ih (fun u z => hu u (by omega)) e
theorem pm_opt_n {o : Option Nat} {b : Nat} (h : o = some b) : pm_opt o = nI b := by rw [h]; rfl
theorem pm_opt_0 {o : Option Nat} (h : o = none) : pm_opt o = -9 := by rw [h]; rfl
theorem pm_opt_up {f : Nat → Int32} {bo : Nat → Option Nat} {nT t h : Nat} (H : ∀ u, u < nT → f u = pm_opt (bo u)) : ∀ u, u < nT → upd f t (nI h) u = pm_opt (va_up bo t (some h) u) := by
  intro u hu
  by_cases e : u = t
  · rw [e, va_up_self]
    exact pk_us
  · rw [va_up_ne _ _ e, ← H u hu]
    exact pk_un e

set_option maxHeartbeats 4000000 in
set_option maxRecDepth 100000 in
theorem metX2_findBest {l : Launch} {S0 : State} {D : va_G} {dA : Nat → ClassId} (hB : tf_B S0 D dA) {sz : Nat} {G : tf_Pic} {mm : Nat} {ad : Nat → Nat} {iv : Nat → Int32} {ar : Nat → Nat → Int32} {fr : Nat → Int64} (hm : mo_W dA mm ad iv ar fr G) {nT nh nc nd ne nk : Nat} {hT kf kh : Nat → Nat} (hI : mo_I iv ar nT nh nc nd ne nk hT kf kh) (gp : Int32) : Met l yX2_findBest (ws_ yX2_findBest cX2_findBest 5 (some .int)) (tf_rm 1 0 0) (tf_Pc S0 D sz G [.ref mm, .int gp]) (tf_Qi S0 D sz G (fun r G1 => r = nI (pm_fbL (ar 23) (ar 24) hT gp nh).2 ∧ ∃ f, (∀ t, t < nT → f t = pm_opt ((pm_fbL (ar 23) (ar 24) hT gp nh).1 t)) ∧ mo_W dA mm ad iv (va_up ar 29 f) fr G1)) 0 0 (tf_A G sz) := by
  refine Met.ofW (cc := cX2_findBest) (maxL := 5) (ret := (some .int)) (by decide) rfl ?_
  intro p e s m args below meth c s₁ B hml hv
  obtain ⟨C, hw, hr, hlk, hin, hargs⟩ := tf_enter hB B hml hv
  subst hargs
  have C : tf_C p s m ([.ref mm, .int gp] : List Value).toArray c cX2_findBest 5 RX2 S0 D dA := C
  have hx := C.hx
  have hb := C.hb
  change W p l e (tf_rm 1 0 0) s m ([.ref mm, .int gp] : List Value).toArray below meth c s.heap [] 0 0 (MQ below (tf_Qi S0 D sz G (fun r G1 => r = nI (pm_fbL (ar 23) (ar 24) hT gp nh).2 ∧ ∃ f, (∀ t, t < nT → f t = pm_opt ((pm_fbL (ar 23) (ar 24) hT gp nh).1 t)) ∧ mo_W dA mm ad iv (va_up ar 29 f) fr G1)) ([.ref mm, .int gp] : List Value).toArray s 0 0 (tf_A G sz)) (entryFrame m ([.ref mm, .int gp] : List Value).toArray 5)
  have hI0 := hI
  obtain ⟨hk2, hnT, hk5, hnh, h6, hk10, hnc, hk14, hnd, hk30, hne, hk31, hnk, h32, hkf0, hkfn, hkfs, h33⟩ := hI
  refine tf_start [.ref mm, .int gp] (Nat.le_of_ble_eq_true rfl) (fun ls hl => ?_)
  have hl : lv_has ls 5 [(0, .ref mm), (1, .int gp)] := hl
  refine lv_iconst (v := 0) hx hb dX2_findBest_0 (by decide) ?_
  refine lv_istore_n (lv' := [(2, .int 0), (0, .ref mm), (1, .int gp)]) hx hb dX2_findBest_1 rfl hl (by decide) rfl (fun ls hl => ?_)
  have hm := mo_eq (va_up_own ar 29 (pm_mix0 (fun _ => -9) (ar 29)).symm) hm
  have b2 : ∀ (fuel : Nat) (t : Nat) (Gx : tf_Pic), nT - t < fuel → (t ≤ nT) → (mo_W dA mm ad iv (va_up ar 29 (pm_mix (fun _ => -9) (ar 29) t)) fr Gx) → ∀ (H : Heap) (locs : List Loc), tf_Wd S0 D (tf_A G sz) s.heap Gx H locs → ∀ (ls : Array Slot), lv_has ls 5 [(2, .int (nI t)), (0, .ref mm), (1, .int gp)] → W p l e (tf_rm 1 0 0) s m ([.ref mm, .int gp] : List Value).toArray below meth c H locs 0 0 (MQ below (tf_Qi S0 D sz G (fun r G1 => r = nI (pm_fbL (ar 23) (ar 24) hT gp nh).2 ∧ ∃ f, (∀ t, t < nT → f t = pm_opt ((pm_fbL (ar 23) (ar 24) hT gp nh).1 t)) ∧ mo_W dA mm ad iv (va_up ar 29 f) fr G1)) ([.ref mm, .int gp] : List Value).toArray s 0 0 (tf_A G sz)) (F0 m 2 ls []) := by
    intro fuel2
    induction fuel2 with
    | zero => intro t Gx hfu2; exact absurd hfu2 (Nat.not_lt_zero _)
    | succ fuel2 ih2 =>
      intro t Gx hfu2 ht hm H locs hw ls hl
      refine lv_iload_n hx hb dX2_findBest_2 rfl (lv_at hl 0 rfl) ?_
      refine lv_aload_n hx hb dX2_findBest_3 rfl (lv_at hl 1 rfl) ?_
      refine gf_X2_104 C hw hm.1 (v := .int (nI nT)) (by rw [← hk2]; rfl) dX2_findBest_4 ?_
      refine tf_icmp_geN hx hb t nT rfl rfl (tgt := 24) dX2_findBest_7 (by decide) (by omega) (by omega) (fun c7 => ?_) (fun c7 => ?_)
      · refine lv_iconst (v := 0) hx hb dX2_findBest_24 (by decide) ?_
        refine lv_istore_n (lv' := [(2, .int 0), (0, .ref mm), (1, .int gp)]) hx hb dX2_findBest_25 rfl hl (by decide) rfl (fun ls hl => ?_)
        refine lv_iconst (v := 0) hx hb dX2_findBest_26 (by decide) ?_
        refine lv_istore_n (lv' := [(3, .int 0), (2, .int 0), (0, .ref mm), (1, .int gp)]) hx hb dX2_findBest_27 rfl hl (by decide) rfl (fun ls hl => ?_)
        have b28 : ∀ (fuel : Nat) (h : Nat) (f : Nat → Int32) (bo : Nat → Option Nat) (n : Nat) (Gx : tf_Pic), nh - h < fuel → (h ≤ nh) → ((bo, n) = pm_fbL (ar 23) (ar 24) hT gp h) → (∀ t, t < nT → f t = pm_opt (bo t)) → (mo_W dA mm ad iv (va_up ar 29 f) fr Gx) → ∀ (H : Heap) (locs : List Loc), tf_Wd S0 D (tf_A G sz) s.heap Gx H locs → ∀ (ls : Array Slot), lv_has ls 5 [(3, .int (nI h)), (2, .int (nI n)), (0, .ref mm), (1, .int gp)] → W p l e (tf_rm 1 0 0) s m ([.ref mm, .int gp] : List Value).toArray below meth c H locs 0 0 (MQ below (tf_Qi S0 D sz G (fun r G1 => r = nI (pm_fbL (ar 23) (ar 24) hT gp nh).2 ∧ ∃ f, (∀ t, t < nT → f t = pm_opt ((pm_fbL (ar 23) (ar 24) hT gp nh).1 t)) ∧ mo_W dA mm ad iv (va_up ar 29 f) fr G1)) ([.ref mm, .int gp] : List Value).toArray s 0 0 (tf_A G sz)) (F0 m 28 ls []) := by
          intro fuel28
          induction fuel28 with
          | zero => intro h f bo n Gx hfu28; exact absurd hfu28 (Nat.not_lt_zero _)
          | succ fuel28 ih28 =>
            intro h f bo n Gx hfu28 hh hs hf hm H locs hw ls hl
            have hnl : n ≤ h := by have := pm_fb_n (ar 23) (ar 24) hT gp h; rw [← hs] at this; exact this
            refine lv_iload_n hx hb dX2_findBest_28 rfl (lv_at hl 0 rfl) ?_
            refine lv_aload_n hx hb dX2_findBest_29 rfl (lv_at hl 2 rfl) ?_
            refine gf_X2_107 C hw hm.1 (v := .int (nI nh)) (by rw [← hk5]; rfl) dX2_findBest_30 ?_
            refine tf_icmp_geN hx hb h nh rfl rfl (tgt := 124) dX2_findBest_33 (by decide) (by omega) (by omega) (fun c33 => ?_) (fun c33 => ?_)
            · refine lv_iload_n hx hb dX2_findBest_124 rfl (lv_at hl 1 rfl) ?_
              refine tf_reti C hw hr hlk dX2_findBest_125 (by first | exact Nat.le_of_ble_eq_true rfl | omega) (by first | exact Nat.le_of_ble_eq_true rfl | omega) ?_
              have hhn : h = nh := by omega
              rw [hhn] at hs
              refine ⟨?_, f, ?_, hm⟩
              · rw [← hs]
              · rw [← hs]; exact hf
            · refine lv_aload_n hx hb dX2_findBest_36 rfl (lv_at hl 2 rfl) ?_
              refine gf_X2_58 C hw hm.1 (v := .ref (ad 23)) rfl dX2_findBest_37 ?_
              refine lv_iload_n hx hb dX2_findBest_40 rfl (lv_at hl 0 rfl) ?_
              refine mo_ald (v := ar 23 h) C hw hm 23 (by decide) (by decide) h rfl (show h < 240 by omega) rfl dX2_findBest_41 ?_
              refine lv_iload_n hx hb dX2_findBest_42 rfl (lv_at hl 3 rfl) ?_
              refine lv_icmp_eq (tgt := 49) hx hb dX2_findBest_43 (by decide) (fun c43 => ?_) (fun c43 => ?_)
              · have h6h := h6 h (by omega)
                have hfv := hf (hT h) h6h.2
                rcases hbo : bo (hT h) with _ | b
                · rw [hbo] at hfv
                  have hfv : f (hT h) = -9 := hfv
                  refine lv_aload_n hx hb dX2_findBest_49 rfl (lv_at hl 2 rfl) ?_
                  refine gf_X2_16 C hw hm.1 (v := .ref (ad 6)) rfl dX2_findBest_50 ?_
                  refine lv_iload_n hx hb dX2_findBest_53 rfl (lv_at hl 0 rfl) ?_
                  refine mo_ald (v := nI (hT h)) C hw hm 6 (by decide) (by decide) h rfl (show h < 240 by omega) (h6 h (by omega)).1 dX2_findBest_54 ?_
                  refine lv_istore (lv' := [(4, .int (nI (hT h))), (3, .int (nI h)), (2, .int (nI n)), (0, .ref mm), (1, .int gp)]) hx hb dX2_findBest_55 hl (by decide) rfl (fun ls hl => ?_)
                  refine lv_iload_n hx hb dX2_findBest_57 rfl (lv_at hl 2 rfl) ?_
                  refine lv_aload_n hx hb dX2_findBest_58 rfl (lv_at hl 3 rfl) ?_
                  refine gf_X2_73 C hw hm.1 (v := .ref (ad 29)) rfl dX2_findBest_59 ?_
                  refine lv_iload hx hb dX2_findBest_62 (lv_at hl 0 rfl) ?_
                  refine mo_ald (v := (-9)) C hw hm 29 (by decide) (by decide) (hT h) rfl (show hT h < 30 by omega) hfv dX2_findBest_64 ?_
                  refine lv_bipush (v := (-9)) hx hb dX2_findBest_65 (by decide) ?_
                  refine lv_icmp_ne (tgt := 74) hx hb dX2_findBest_67 (by decide) (fun c67 => absurd c67 (not_not_intro rfl)) (fun c67 => ?_)
                  refine lv_iconst (v := 1) hx hb dX2_findBest_70 (by decide) ?_
                  refine lv_goto (tgt := 75) hx hb dX2_findBest_71 (by decide) ?_
                  refine tf_iaddN hx hb n 1 rfl rfl dX2_findBest_75 ?_
                  refine lv_istore_n (lv' := [(2, .int (nI (n + 1))), (4, .int (nI (hT h))), (3, .int (nI h)), (0, .ref mm), (1, .int gp)]) hx hb dX2_findBest_76 rfl hl (by decide) rfl (fun ls hl => ?_)
                  refine lv_aload_n hx hb dX2_findBest_77 rfl (lv_at hl 3 rfl) ?_
                  refine gf_X2_73 C hw hm.1 (v := .ref (ad 29)) rfl dX2_findBest_78 ?_
                  refine lv_iload hx hb dX2_findBest_81 (lv_at hl 1 rfl) ?_
                  refine mo_ald (v := (-9)) C hw hm 29 (by decide) (by decide) (hT h) rfl (show hT h < 30 by omega) hfv dX2_findBest_83 ?_
                  refine lv_bipush (v := (-9)) hx hb dX2_findBest_84 (by decide) ?_
                  refine lv_icmp_eq (tgt := 110) hx hb dX2_findBest_86 (by decide) (fun c86 => ?_) (fun c86 => absurd c86 (not_not_intro rfl))
                  refine lv_aload_n hx hb dX2_findBest_110 rfl (lv_at hl 3 rfl) ?_
                  refine gf_X2_73 C hw hm.1 (v := .ref (ad 29)) rfl dX2_findBest_111 ?_
                  refine lv_iload hx hb dX2_findBest_114 (lv_at hl 1 rfl) ?_
                  refine lv_iload_n hx hb dX2_findBest_116 rfl (lv_at hl 2 rfl) ?_
                  refine mo_ast C hw hm 29 (by decide) (by decide) f rfl (hT h) rfl (show hT h < 30 by omega) dX2_findBest_117 (fun G1 H locs hm hw => ?_)
                  have hm := mo_eq (va_up_uu ar 29 (show _ = upd f (hT h) (nI h) from rfl)) hm
                  refine lv_iinc (v := nI (h + 1)) (lv' := [(3, .int (nI (h + 1))), (2, .int (nI (n + 1))), (4, .int (nI (hT h))), (0, .ref mm), (1, .int gp)]) hx hb dX2_findBest_118 hl (k := 2) rfl (nI_1 _) (by decide) rfl (fun ls hl => ?_)
                  refine lv_goto (tgt := 28) hx hb dX2_findBest_121 (by decide) ?_
                  exact ih28 (h + 1) _ _ _ _ (by omega) (by omega) (by simp only [pm_fbL, ← hs, if_pos c43, hbo]) (pm_opt_up hf) hm _ _ hw ls (lv_sub hl [0, 1, 3, 4] rfl)
                · rw [hbo] at hfv
                  have hfv : f (hT h) = nI b := hfv
                  have hbl : b < h := by have := pm_fb_lt (ar 23) (ar 24) hT gp h (hT h) b (by rw [← hs]; exact hbo); exact this
                  refine lv_aload_n hx hb dX2_findBest_49 rfl (lv_at hl 2 rfl) ?_
                  refine gf_X2_16 C hw hm.1 (v := .ref (ad 6)) rfl dX2_findBest_50 ?_
                  refine lv_iload_n hx hb dX2_findBest_53 rfl (lv_at hl 0 rfl) ?_
                  refine mo_ald (v := nI (hT h)) C hw hm 6 (by decide) (by decide) h rfl (show h < 240 by omega) (h6 h (by omega)).1 dX2_findBest_54 ?_
                  refine lv_istore (lv' := [(4, .int (nI (hT h))), (3, .int (nI h)), (2, .int (nI n)), (0, .ref mm), (1, .int gp)]) hx hb dX2_findBest_55 hl (by decide) rfl (fun ls hl => ?_)
                  refine lv_iload_n hx hb dX2_findBest_57 rfl (lv_at hl 2 rfl) ?_
                  refine lv_aload_n hx hb dX2_findBest_58 rfl (lv_at hl 3 rfl) ?_
                  refine gf_X2_73 C hw hm.1 (v := .ref (ad 29)) rfl dX2_findBest_59 ?_
                  refine lv_iload hx hb dX2_findBest_62 (lv_at hl 0 rfl) ?_
                  refine mo_ald (v := nI b) C hw hm 29 (by decide) (by decide) (hT h) rfl (show hT h < 30 by omega) hfv dX2_findBest_64 ?_
                  refine lv_bipush (v := (-9)) hx hb dX2_findBest_65 (by decide) ?_
                  refine lv_icmp_ne (tgt := 74) hx hb dX2_findBest_67 (by decide) (fun c67 => ?_) (fun c67 => absurd c67 (pm_n9 (by omega)))
                  refine lv_iconst (v := 0) hx hb dX2_findBest_74 (by decide) ?_
                  refine tf_iaddN hx hb n 0 rfl rfl dX2_findBest_75 ?_
                  refine lv_istore_n (lv' := [(2, .int (nI (n + 0))), (4, .int (nI (hT h))), (3, .int (nI h)), (0, .ref mm), (1, .int gp)]) hx hb dX2_findBest_76 rfl hl (by decide) rfl (fun ls hl => ?_)
                  refine lv_aload_n hx hb dX2_findBest_77 rfl (lv_at hl 3 rfl) ?_
                  refine gf_X2_73 C hw hm.1 (v := .ref (ad 29)) rfl dX2_findBest_78 ?_
                  refine lv_iload hx hb dX2_findBest_81 (lv_at hl 1 rfl) ?_
                  refine mo_ald (v := nI b) C hw hm 29 (by decide) (by decide) (hT h) rfl (show hT h < 30 by omega) hfv dX2_findBest_83 ?_
                  refine lv_bipush (v := (-9)) hx hb dX2_findBest_84 (by decide) ?_
                  refine lv_icmp_eq (tgt := 110) hx hb dX2_findBest_86 (by decide) (fun c86 => absurd c86 (pm_n9 (by omega))) (fun c86 => ?_)
                  refine lv_aload_n hx hb dX2_findBest_89 rfl (lv_at hl 3 rfl) ?_
                  refine gf_X2_61 C hw hm.1 (v := .ref (ad 24)) rfl dX2_findBest_90 ?_
                  refine lv_iload_n hx hb dX2_findBest_93 rfl (lv_at hl 2 rfl) ?_
                  refine mo_ald (v := ar 24 h) C hw hm 24 (by decide) (by decide) h rfl (show h < 240 by omega) rfl dX2_findBest_94 ?_
                  refine lv_aload_n hx hb dX2_findBest_95 rfl (lv_at hl 3 rfl) ?_
                  refine gf_X2_61 C hw hm.1 (v := .ref (ad 24)) rfl dX2_findBest_96 ?_
                  refine lv_aload_n hx hb dX2_findBest_99 rfl (lv_at hl 3 rfl) ?_
                  refine gf_X2_73 C hw hm.1 (v := .ref (ad 29)) rfl dX2_findBest_100 ?_
                  refine lv_iload hx hb dX2_findBest_103 (lv_at hl 1 rfl) ?_
                  refine mo_ald (v := nI b) C hw hm 29 (by decide) (by decide) (hT h) rfl (show hT h < 30 by omega) hfv dX2_findBest_105 ?_
                  refine mo_ald (v := ar 24 b) C hw hm 24 (by decide) (by decide) b rfl (show b < 240 by omega) rfl dX2_findBest_106 ?_
                  refine lv_icmp_ge (tgt := 118) hx hb dX2_findBest_107 (by decide) (fun c107 => ?_) (fun c107 => ?_)
                  · refine lv_iinc (v := nI (h + 1)) (lv' := [(3, .int (nI (h + 1))), (2, .int (nI (n + 0))), (4, .int (nI (hT h))), (0, .ref mm), (1, .int gp)]) hx hb dX2_findBest_118 hl (k := 2) rfl (nI_1 _) (by decide) rfl (fun ls hl => ?_)
                    refine lv_goto (tgt := 28) hx hb dX2_findBest_121 (by decide) ?_
                    exact ih28 (h + 1) _ _ _ _ (by omega) (by omega) (by simp only [pm_fbL, ← hs, if_pos c43, hbo, Nat.add_zero, if_pos c107]) (hf) hm _ _ hw ls (lv_sub hl [0, 1, 3, 4] rfl)
                  · refine lv_aload_n hx hb dX2_findBest_110 rfl (lv_at hl 3 rfl) ?_
                    refine gf_X2_73 C hw hm.1 (v := .ref (ad 29)) rfl dX2_findBest_111 ?_
                    refine lv_iload hx hb dX2_findBest_114 (lv_at hl 1 rfl) ?_
                    refine lv_iload_n hx hb dX2_findBest_116 rfl (lv_at hl 2 rfl) ?_
                    refine mo_ast C hw hm 29 (by decide) (by decide) f rfl (hT h) rfl (show hT h < 30 by omega) dX2_findBest_117 (fun G2 H locs hm hw => ?_)
                    have hm := mo_eq (va_up_uu ar 29 (show _ = upd f (hT h) (nI h) from rfl)) hm
                    refine lv_iinc (v := nI (h + 1)) (lv' := [(3, .int (nI (h + 1))), (2, .int (nI (n + 0))), (4, .int (nI (hT h))), (0, .ref mm), (1, .int gp)]) hx hb dX2_findBest_118 hl (k := 2) rfl (nI_1 _) (by decide) rfl (fun ls hl => ?_)
                    refine lv_goto (tgt := 28) hx hb dX2_findBest_121 (by decide) ?_
                    exact ih28 (h + 1) _ _ _ _ (by omega) (by omega) (by simp only [pm_fbL, ← hs, if_pos c43, hbo, Nat.add_zero, if_neg c107]) (pm_opt_up hf) hm _ _ hw ls (lv_sub hl [0, 1, 3, 4] rfl)
              · refine lv_goto (tgt := 118) hx hb dX2_findBest_46 (by decide) ?_
                refine lv_iinc (v := nI (h + 1)) (lv' := [(3, .int (nI (h + 1))), (2, .int (nI n)), (0, .ref mm), (1, .int gp)]) hx hb dX2_findBest_118 hl (k := 0) rfl (nI_1 _) (by decide) rfl (fun ls hl => ?_)
                refine lv_goto (tgt := 28) hx hb dX2_findBest_121 (by decide) ?_
                exact ih28 (h + 1) _ _ _ _ (by omega) (by omega) (by simp only [pm_fbL, ← hs, if_neg c43]) (hf) hm _ _ hw ls hl
        exact b28 (nh + 1) 0 _ _ _ _ (by omega) (by omega) rfl (fun u hu => by simp only [pm_mix]; rw [if_pos (by omega)]; rfl) hm _ _ hw ls hl
      · refine lv_aload_n hx hb dX2_findBest_10 rfl (lv_at hl 1 rfl) ?_
        refine gf_X2_73 C hw hm.1 (v := .ref (ad 29)) rfl dX2_findBest_11 ?_
        refine lv_iload_n hx hb dX2_findBest_14 rfl (lv_at hl 0 rfl) ?_
        refine lv_bipush (v := (-9)) hx hb dX2_findBest_15 (by decide) ?_
        refine mo_ast C hw hm 29 (by decide) (by decide) (pm_mix (fun _ => -9) (ar 29) t) rfl t rfl (show t < 30 by omega) dX2_findBest_17 (fun G3 H locs hm hw => ?_)
        have hm := mo_eq (va_up_uu ar 29 (show _ = upd (pm_mix (fun _ => -9) (ar 29) t) t ((-9)) from rfl)) hm
        refine lv_iinc (v := nI (t + 1)) (lv' := [(2, .int (nI (t + 1))), (0, .ref mm), (1, .int gp)]) hx hb dX2_findBest_18 hl (k := 0) rfl (nI_1 _) (by decide) rfl (fun ls hl => ?_)
        refine lv_goto (tgt := 2) hx hb dX2_findBest_21 (by decide) ?_
        have hm := mo_eq (congrArg (va_up ar 29) (pm_mix1 (fun _ => -9) (ar 29) t rfl)) hm
        exact ih2 (t + 1) _ (by omega) (by omega) hm _ _ hw ls hl
  exact b2 (nT + 1) 0 _ (by omega) (by omega) hm _ _ hw ls hl

/-- behind joining: right times, groups, queue -/
def pm_JR (ar : Nat → Nat → Int32) (nc nh : Nat) : Nat → Int32 := pm_mix (fun j => pm_rightL ar j nc) (ar 24) nh
def pm_JO (ar : Nat → Nat → Int32) (hT : Nat → Nat) (nc nd nh : Nat) (wo : Int32) : (Nat → Int32) × (Nat → Int32) := pm_joutL (pm_nearR ar (pm_JR ar nc nh) hT) nh (pm_mix (pm_g0 ar hT nd wo) (ar 23) nh) (ar 25) nh
def pm_JA (ar : Nat → Nat → Int32) (hT : Nat → Nat) (nc nd nh : Nat) (wo : Int32) : Nat → Nat → Int32 := pm_ar3 ar (pm_JR ar nc nh) (pm_JO ar hT nc nd nh wo).1 (pm_JO ar hT nc nd nh wo).2
/-- the arrays of making: best, firsts, groups -/
def pm_arM (ar : Nat → Nat → Int32) (b f g : Nat → Int32) : Nat → Nat → Int32 := va_up (va_up (va_up ar 29 b) 28 f) 27 g
theorem pm_arM_0 (ar : Nat → Nat → Int32) : ar = pm_arM ar (ar 29) (ar 28) (ar 27) := by
  funext j
  by_cases h1 : j = 27
  · subst h1; rfl
  · by_cases h2 : j = 28
    · subst h2; rfl
    · by_cases h3 : j = 29
      · subst h3; rfl
      · simp [pm_arM, va_up, h1, h2, h3]
theorem pm_arM_29 {ar : Nat → Nat → Int32} {b f g v w : Nat → Int32} (h : v = w) : va_up (pm_arM ar b f g) 29 v = pm_arM ar w f g := by
  subst h
  funext j
  by_cases h1 : j = 29
  · subst h1; rfl
  · simp [pm_arM, va_up, h1]
theorem pm_arM_28 {ar : Nat → Nat → Int32} {b f g v w : Nat → Int32} (h : v = w) : va_up (pm_arM ar b f g) 28 v = pm_arM ar b w g := by
  subst h
  funext j
  by_cases h1 : j = 28
  · subst h1; rfl
  · simp [pm_arM, va_up, h1]
theorem pm_arM_27 {ar : Nat → Nat → Int32} {b f g v w : Nat → Int32} (h : v = w) : va_up (pm_arM ar b f g) 27 v = pm_arM ar b f w := by
  subst h
  funext j
  by_cases h1 : j = 27
  · subst h1; rfl
  · simp [pm_arM, va_up, h1]
/-- the hit that a group begins with -/
def pm_fstL (R : Nat → Int32) (bo : Nat → Option Nat) : Nat → Option Nat
  | 0 => none
  | t + 1 => match bo t with
    | none => pm_fstL R bo t
    | some b => match pm_fstL R bo t with
      | none => some b
      | some a => if pm_ahead R b a then some b else some a
theorem pm_fst_some (R : Nat → Int32) (bo : Nat → Option Nat) {u b : Nat} (h : bo u = some b) : ∀ t, u < t → ∃ a, pm_fstL R bo t = some a := by
  intro t
  induction t with
  | zero => intro h; omega
  | succ t ih =>
    intro hu
    simp only [pm_fstL]
    by_cases e : u = t
    · subst e
      rw [h]
      cases pm_fstL R bo u with
      | none => exact ⟨b, rfl⟩
      | some a => by_cases z : pm_ahead R b a = true
                  · exact ⟨b, by simp only [if_pos z]⟩
                  · exact ⟨a, by simp only [if_neg z]⟩
    · obtain ⟨a, ha⟩ := ih (by omega)
      cases bo t with
      | none => exact ⟨a, ha⟩
      | some c => by_cases z : pm_ahead R c a = true
                  · exact ⟨c, by simp only [ha, if_pos z]⟩
                  · exact ⟨a, by simp only [ha, if_neg z]⟩
theorem pm_fst_lt (R : Nat → Int32) (bo : Nat → Option Nat) {n : Nat} (h : ∀ t b, bo t = some b → b < n) : ∀ t a, pm_fstL R bo t = some a → a < n := by
  intro t
  induction t with
  | zero => intro a e; cases e
  | succ t ih =>
    intro a e
    simp only [pm_fstL] at e
    cases hb : bo t with
    | none => rw [hb] at e; exact ih a e
    | some b =>
      rw [hb] at e
      cases hf : pm_fstL R bo t with
      | none => rw [hf] at e; cases e; exact h t _ hb
      | some c =>
        rw [hf] at e
        by_cases z : pm_ahead R b c = true
        · simp only [if_pos z] at e; cases e; exact h t _ hb
        · simp only [if_neg z] at e; cases e; exact ih _ hf
/-- where x goes among the first k of L -/
def pm_pos (R : Nat → Int32) (L : List (Nat × Nat)) (x : Nat) : Nat → Nat
  | 0 => 0
  | k + 1 => if pm_ahead R x (L.getD k (0, 0)).1 then pm_pos R L x k else k + 1
theorem pm_pos_le (R : Nat → Int32) (L : List (Nat × Nat)) (x : Nat) : ∀ k, pm_pos R L x k ≤ k := by
  intro k
  induction k with
  | zero => exact Nat.le_refl _
  | succ k ih => simp only [pm_pos]; split <;> omega
def pm_insert (R : Nat → Int32) (L : List (Nat × Nat)) (x : Nat × Nat) : List (Nat × Nat) := L.take (pm_pos R L x.1 L.length) ++ x :: L.drop (pm_pos R L x.1 L.length)
theorem pm_insert_len (R : Nat → Int32) (L : List (Nat × Nat)) (x : Nat × Nat) : (pm_insert R L x).length = L.length + 1 := by
  have := pm_pos_le R L x.1 L.length
  simp only [pm_insert, List.length_append, List.length_take, List.length_cons, List.length_drop]
  omega
/-- the events in their order: the first hit, the group's number -/
def pm_madeL (gr R : Nat → Int32) (hT : Nat → Nat) (nT nh : Nat) (r2 : Int32) : Nat → List (Nat × Nat)
  | 0 => []
  | h + 1 => if gr h = nI h then (if r2 ≤ nI (pm_fbL gr R hT (nI h) nh).2 then pm_insert R (pm_madeL gr R hT nT nh r2 h) (((pm_fstL R (pm_fbL gr R hT (nI h) nh).1 nT).getD 0), h) else pm_madeL gr R hT nT nh r2 h) else pm_madeL gr R hT nT nh r2 h
theorem pm_made_len (gr R : Nat → Int32) (hT : Nat → Nat) (nT nh : Nat) (r2 : Int32) : ∀ h, (pm_madeL gr R hT nT nh r2 h).length ≤ h := by
  intro h
  induction h with
  | zero => exact Nat.le_refl _
  | succ h ih =>
    simp only [pm_madeL]
    split
    · split
      · rw [pm_insert_len]; omega
      · omega
    · omega
def pm_shift (f : Nat → Int32) (p m : Nat) : Nat → Int32 := fun j => if p < j ∧ j ≤ m then f (j - 1) else f j
theorem pm_shift0 (f : Nat → Int32) (m : Nat) : f = pm_shift f m m := by
  funext j
  simp only [pm_shift]
  rw [if_neg (by omega)]
theorem pm_shift1 (f : Nat → Int32) {p m : Nat} (h : p + 1 ≤ m) {v : Int32} (hv : v = f p) : upd (pm_shift f (p + 1) m) (p + 1) v = pm_shift f p m := by
  subst hv
  funext j
  simp only [upd, pm_shift]
  by_cases e : j = p + 1
  · rw [if_pos e, if_pos (by omega), e]
    rfl
  · rw [if_neg e]
    by_cases e2 : p + 1 < j ∧ j ≤ m
    · rw [if_pos e2, if_pos (by omega)]
    · rw [if_neg e2, if_neg (by omega)]
theorem pm_shift_at (f : Nat → Int32) {p m j : Nat} (h : j ≤ p) : pm_shift f p m j = f j := by
  simp only [pm_shift]
  rw [if_neg (by omega)]
/-- arrays that hold a list -/
def pm_holds (L : List (Nat × Nat)) (f g : Nat → Int32) : Prop := ∀ j, j < L.length → f j = nI (L.getD j (0, 0)).1 ∧ g j = nI (L.getD j (0, 0)).2
theorem pm_holds_ins {R : Nat → Int32} {L : List (Nat × Nat)} {f g : Nat → Int32} (x : Nat × Nat) (h : pm_holds L f g) {p : Nat} (hp : p = pm_pos R L x.1 L.length) : pm_holds (pm_insert R L x) (upd (pm_shift f p L.length) p (nI x.1)) (upd (pm_shift g p L.length) p (nI x.2)) := by
  have hl := pm_pos_le R L x.1 L.length
  rw [← hp] at hl
  intro j hj
  rw [pm_insert_len] at hj
  have hd : (pm_insert R L x).getD j (0, 0) = if j < p then L.getD j (0, 0) else if j = p then x else L.getD (j - 1) (0, 0) := by
    simp only [pm_insert, ← hp, List.getD_eq_getElem?_getD]
    have hlt : (L.take p).length = p := by rw [List.length_take]; omega
    by_cases h1 : j < p
    · rw [if_pos h1, List.getElem?_append_left (by omega), List.getElem?_take, if_pos h1]
    · rw [if_neg h1, List.getElem?_append_right (by omega), hlt]
      by_cases h2 : j = p
      · rw [if_pos h2, h2, Nat.sub_self]; rfl
      · rw [if_neg h2, show j - p = (j - p - 1) + 1 by omega, List.getElem?_cons_succ, List.getElem?_drop, show p + (j - p - 1) = j - 1 by omega]
  rw [hd]
  simp only [upd, pm_shift]
  by_cases h1 : j < p
  · rw [if_pos h1, if_neg (by omega), if_neg (by omega), if_neg (by omega), if_neg (by omega)]
    exact h j (by omega)
  · rw [if_neg h1]
    by_cases h2 : j = p
    · rw [if_pos h2, if_pos h2, if_pos h2]
      exact ⟨rfl, rfl⟩
    · rw [if_neg h2, if_neg h2, if_neg h2, if_pos (by omega), if_pos (by omega)]
      exact h (j - 1) (by omega)
