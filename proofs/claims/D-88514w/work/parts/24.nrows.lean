/-! rows on ints that are small naturals; switches -/
set_option maxRecDepth 100000
section TFN
variable {p : Program} {l : Launch} {e : Env} {R : Room} {s : State} {m : MethodId} {args : Array Value} {below : List Frame} {meth : Method} {c : Code} {H : Heap} {locs : List Loc} {cells slots : Nat} {Q : State → Prop}
variable {cc : ByteArray} {pc nL : Nat} {ls : Array Slot} {rest : List Value}
theorem tf_iaddN (hexec : p.tables.exec = Jvm.exec) (hb : c.code = cc) (a b : Nat) {x y : Int32} (hx : x = nI a) (hy : y = nI b) (hdg : decode cc pc = .ok (.iadd, 1)) (k : W p l e R s m args below meth c H locs cells slots Q (F0 m (pc + 1) ls (.int (nI (a + b)) :: rest))) : W p l e R s m args below meth c H locs cells slots Q (F0 m pc ls (.int y :: .int x :: rest)) := by
  subst hx; subst hy
  refine lv_iadd hexec hb hdg ?_
  rw [nI_add]
  exact k
theorem tf_imulN (hexec : p.tables.exec = Jvm.exec) (hb : c.code = cc) (a b : Nat) {x y : Int32} (hx : x = nI a) (hy : y = nI b) (hdg : decode cc pc = .ok (.imul, 1)) (k : W p l e R s m args below meth c H locs cells slots Q (F0 m (pc + 1) ls (.int (nI (a * b)) :: rest))) : W p l e R s m args below meth c H locs cells slots Q (F0 m pc ls (.int y :: .int x :: rest)) := by
  subst hx; subst hy
  refine lv_imul hexec hb hdg ?_
  rw [pk_mul]
  exact k
theorem tf_isubN (hexec : p.tables.exec = Jvm.exec) (hb : c.code = cc) (a b : Nat) {x y : Int32} (hx : x = nI a) (hy : y = nI b) (h : b ≤ a) (hdg : decode cc pc = .ok (.isub, 1)) (k : W p l e R s m args below meth c H locs cells slots Q (F0 m (pc + 1) ls (.int (nI (a - b)) :: rest))) : W p l e R s m args below meth c H locs cells slots Q (F0 m pc ls (.int y :: .int x :: rest)) := by
  subst hx; subst hy
  refine lv_isub hexec hb hdg ?_
  rw [pk_sub h]
  exact k
theorem tf_icmp_geN (hexec : p.tables.exec = Jvm.exec) (hb : c.code = cc) (a b : Nat) {x y : Int32} (hx : x = nI a) (hy : y = nI b) {off : Int} {tgt : Nat} (hdg : decode cc pc = .ok (.if_icmp .ge off, 3)) (ht : (pc : Int) + off = (tgt : Int)) (ha : a < 2 ^ 31) (hb2 : b < 2 ^ 31)
    (kt : b ≤ a → W p l e R s m args below meth c H locs cells slots Q (F0 m tgt ls rest)) (kf : a < b → W p l e R s m args below meth c H locs cells slots Q (F0 m (pc + 3) ls rest)) : W p l e R s m args below meth c H locs cells slots Q (F0 m pc ls (.int y :: .int x :: rest)) := by
  subst hx; subst hy
  exact lv_icmp_ge hexec hb hdg ht (fun h => kt ((nI_leI hb2 ha).mp h)) (fun h => kf (Nat.lt_of_not_le (fun z => h ((nI_leI hb2 ha).mpr z))))
theorem tf_icmp_ltN (hexec : p.tables.exec = Jvm.exec) (hb : c.code = cc) (a b : Nat) {x y : Int32} (hx : x = nI a) (hy : y = nI b) {off : Int} {tgt : Nat} (hdg : decode cc pc = .ok (.if_icmp .lt off, 3)) (ht : (pc : Int) + off = (tgt : Int)) (ha : a < 2 ^ 31) (hb2 : b < 2 ^ 31)
    (kt : a < b → W p l e R s m args below meth c H locs cells slots Q (F0 m tgt ls rest)) (kf : b ≤ a → W p l e R s m args below meth c H locs cells slots Q (F0 m (pc + 3) ls rest)) : W p l e R s m args below meth c H locs cells slots Q (F0 m pc ls (.int y :: .int x :: rest)) := by
  subst hx; subst hy
  exact lv_icmp_lt hexec hb hdg ht (fun h => kt ((nI_ltI ha hb2).mp h)) (fun h => kf (Nat.le_of_not_lt (fun z => h ((nI_ltI ha hb2).mpr z))))
theorem tf_icmp_gtN (hexec : p.tables.exec = Jvm.exec) (hb : c.code = cc) (a b : Nat) {x y : Int32} (hx : x = nI a) (hy : y = nI b) {off : Int} {tgt : Nat} (hdg : decode cc pc = .ok (.if_icmp .gt off, 3)) (ht : (pc : Int) + off = (tgt : Int)) (ha : a < 2 ^ 31) (hb2 : b < 2 ^ 31)
    (kt : b < a → W p l e R s m args below meth c H locs cells slots Q (F0 m tgt ls rest)) (kf : a ≤ b → W p l e R s m args below meth c H locs cells slots Q (F0 m (pc + 3) ls rest)) : W p l e R s m args below meth c H locs cells slots Q (F0 m pc ls (.int y :: .int x :: rest)) := by
  subst hx; subst hy
  exact lv_icmp_gt hexec hb hdg ht (fun h => kt ((nI_ltI hb2 ha).mp h)) (fun h => kf (Nat.le_of_not_lt (fun z => h ((nI_ltI hb2 ha).mpr z))))
theorem tf_icmp_leN (hexec : p.tables.exec = Jvm.exec) (hb : c.code = cc) (a b : Nat) {x y : Int32} (hx : x = nI a) (hy : y = nI b) {off : Int} {tgt : Nat} (hdg : decode cc pc = .ok (.if_icmp .le off, 3)) (ht : (pc : Int) + off = (tgt : Int)) (ha : a < 2 ^ 31) (hb2 : b < 2 ^ 31)
    (kt : a ≤ b → W p l e R s m args below meth c H locs cells slots Q (F0 m tgt ls rest)) (kf : b < a → W p l e R s m args below meth c H locs cells slots Q (F0 m (pc + 3) ls rest)) : W p l e R s m args below meth c H locs cells slots Q (F0 m pc ls (.int y :: .int x :: rest)) := by
  subst hx; subst hy
  exact lv_icmp_le hexec hb hdg ht (fun h => kt ((nI_leI ha hb2).mp h)) (fun h => kf (Nat.lt_of_not_le (fun z => h ((nI_leI ha hb2).mpr z))))
theorem tf_icmp_eqN (hexec : p.tables.exec = Jvm.exec) (hb : c.code = cc) (a b : Nat) {x y : Int32} (hx : x = nI a) (hy : y = nI b) {off : Int} {tgt : Nat} (hdg : decode cc pc = .ok (.if_icmp .eq off, 3)) (ht : (pc : Int) + off = (tgt : Int)) (ha : a < 2 ^ 31) (hb2 : b < 2 ^ 31)
    (kt : a = b → W p l e R s m args below meth c H locs cells slots Q (F0 m tgt ls rest)) (kf : a ≠ b → W p l e R s m args below meth c H locs cells slots Q (F0 m (pc + 3) ls rest)) : W p l e R s m args below meth c H locs cells slots Q (F0 m pc ls (.int y :: .int x :: rest)) := by
  subst hx; subst hy
  exact lv_icmp_eq hexec hb hdg ht (fun h => kt ((nI_eq ha hb2).mp h)) (fun h => kf (fun z => h ((nI_eq ha hb2).mpr z)))
theorem tf_icmp_neN (hexec : p.tables.exec = Jvm.exec) (hb : c.code = cc) (a b : Nat) {x y : Int32} (hx : x = nI a) (hy : y = nI b) {off : Int} {tgt : Nat} (hdg : decode cc pc = .ok (.if_icmp .ne off, 3)) (ht : (pc : Int) + off = (tgt : Int)) (ha : a < 2 ^ 31) (hb2 : b < 2 ^ 31)
    (kt : a ≠ b → W p l e R s m args below meth c H locs cells slots Q (F0 m tgt ls rest)) (kf : a = b → W p l e R s m args below meth c H locs cells slots Q (F0 m (pc + 3) ls rest)) : W p l e R s m args below meth c H locs cells slots Q (F0 m pc ls (.int y :: .int x :: rest)) := by
  subst hx; subst hy
  exact lv_icmp_ne hexec hb hdg ht (fun h => kt (fun z => h ((nI_eq ha hb2).mpr z))) (fun h => kf ((nI_eq ha hb2).mp h))
end TFN
theorem tf_incN (k n : Nat) : nI k + Int32.ofInt n = nI (k + n) := by
  have h : Int32.ofInt (n : Int) = nI n := rfl
  rw [h, nI_add]
theorem tf_m1 (j : Nat) : nI j + Int32.ofInt (-1) = nI j - 1 := by
  rw [Int32.sub_eq_add_neg]
  rfl
theorem tf_dec0 {k : Nat} (h : k < 2 ^ 31) (hc : nI k - 1 < 0) : k = 0 := by
  cases k with
  | zero => rfl
  | succ j =>
    rw [nI_pred] at hc
    exact absurd hc (nI_pos (by omega))
theorem tf_dec1 {k : Nat} (hc : ¬ nI k - 1 < 0) : ∃ j, k = j + 1 := by
  cases k with
  | zero => exact absurd (by decide) hc
  | succ j => exact ⟨j, rfl⟩
theorem tf_i32 {x y : Int32} (h : x.toInt = y.toInt) : x = y := Int32.toInt_inj.mp h
theorem tf_sw2 (x : Int32) : x = 0 ∨ x = 1 ∨ (x.toInt < 0 ∨ 1 < x.toInt) := by
  by_cases h0 : x = 0
  · exact Or.inl h0
  · by_cases h1 : x = 1
    · exact Or.inr (Or.inl h1)
    · have a0 : x.toInt ≠ 0 := fun h => h0 (tf_i32 h)
      have a1 : x.toInt ≠ 1 := fun h => h1 (tf_i32 h)
      omega
theorem tf_sw5 (x : Int32) : x = 0 ∨ x = 1 ∨ x = 2 ∨ x = 3 ∨ x = 4 ∨ (x.toInt < 0 ∨ 4 < x.toInt) := by
  by_cases h0 : x = 0; · simp [h0]
  by_cases h1 : x = 1; · simp [h1]
  by_cases h2 : x = 2; · simp [h2]
  by_cases h3 : x = 3; · simp [h3]
  by_cases h4 : x = 4; · simp [h4]
  have a0 : x.toInt ≠ 0 := fun h => h0 (tf_i32 h)
  have a1 : x.toInt ≠ 1 := fun h => h1 (tf_i32 h)
  have a2 : x.toInt ≠ 2 := fun h => h2 (tf_i32 h)
  have a3 : x.toInt ≠ 3 := fun h => h3 (tf_i32 h)
  have a4 : x.toInt ≠ 4 := fun h => h4 (tf_i32 h)
  exact Or.inr (Or.inr (Or.inr (Or.inr (Or.inr (by omega)))))
theorem tf_sw7 (x : Int32) : x = 0 ∨ x = 1 ∨ x = 2 ∨ x = 3 ∨ x = 4 ∨ x = 5 ∨ x = 6 ∨ (x.toInt < 0 ∨ 6 < x.toInt) := by
  rcases tf_sw5 x with h | h | h | h | h | h
  · simp [h]
  · simp [h]
  · simp [h]
  · simp [h]
  · simp [h]
  by_cases h5 : x = 5; · simp [h5]
  by_cases h6 : x = 6; · simp [h6]
  have a5 : x.toInt ≠ 5 := fun h => h5 (tf_i32 h)
  have a6 : x.toInt ≠ 6 := fun h => h6 (tf_i32 h)
  exact Or.inr (Or.inr (Or.inr (Or.inr (Or.inr (Or.inr (Or.inr (by omega)))))))
theorem tf_sw10 (x : Int32) : x = 0 ∨ x = 1 ∨ x = 2 ∨ x = 3 ∨ x = 4 ∨ x = 5 ∨ x = 6 ∨ x = 7 ∨ x = 8 ∨ x = 9 ∨ (x.toInt < 0 ∨ 9 < x.toInt) := by
  rcases tf_sw7 x with h | h | h | h | h | h | h | h
  · simp [h]
  · simp [h]
  · simp [h]
  · simp [h]
  · simp [h]
  · simp [h]
  · simp [h]
  by_cases h5 : x = 7; · simp [h5]
  by_cases h6 : x = 8; · simp [h6]
  by_cases h7 : x = 9; · simp [h7]
  have a5 : x.toInt ≠ 7 := fun h => h5 (tf_i32 h)
  have a6 : x.toInt ≠ 8 := fun h => h6 (tf_i32 h)
  have a7 : x.toInt ≠ 9 := fun h => h7 (tf_i32 h)
  exact Or.inr (Or.inr (Or.inr (Or.inr (Or.inr (Or.inr (Or.inr (Or.inr (Or.inr (Or.inr (by omega))))))))))
theorem tf_swl (x : Int32) : x = 1 ∨ x = 2 ∨ x = 3 ∨ (x.toInt < 1 ∨ 3 < x.toInt) := by
  by_cases h1 : x = 1; · simp [h1]
  by_cases h2 : x = 2; · simp [h2]
  by_cases h3 : x = 3; · simp [h3]
  have a1 : x.toInt ≠ 1 := fun h => h1 (tf_i32 h)
  have a2 : x.toInt ≠ 2 := fun h => h2 (tf_i32 h)
  have a3 : x.toInt ≠ 3 := fun h => h3 (tf_i32 h)
  exact Or.inr (Or.inr (Or.inr (by omega)))
theorem tf_rfs {f : Nat → Option Nat} {k b : Nat} (h : f k = some b) : va_rf (f k) = .ref b := by rw [h]; rfl
theorem tf_rfn {f : Nat → Option Nat} {k : Nat} (h : f k = none) : va_rf (f k) = .null := by rw [h]; rfl
theorem tf_ren {S0 : State} {D : va_G} {A : Nat → Prop} {H0 H : Heap} {G G1 : tf_Pic} {locs : List Loc} (h : G1 = G) (hw : tf_Wd S0 D A H0 G H locs) : tf_Wd S0 D A H0 G1 H locs := by rw [h]; exact hw
/-- an address that is free behind a write was free before it -/
theorem tf_none {G : tf_Pic} {a b : Nat} {x : va_E} (h : va_up G a (some x) b = none) : G b = none := by
  by_cases e : b = a
  · rw [e, va_up_self] at h
    cases h
  · rw [va_up_ne _ _ e] at h
    exact h
