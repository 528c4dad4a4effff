/-! MODULE TankFieldModel: its world: the object at mm, int fields iv, array fields at ad with contents ar (by field number), the long array fr -/
set_option maxRecDepth 100000
theorem tf_ne_IL {c1 c2 : ClassId} {n1 n2 : Nat} {f : Nat → Int32} {g : (Nat → Int64) ⊕ (Nat → UInt32) ⊕ (Nat → UInt64) ⊕ (Nat → Option Nat)} : (Sum.inl (c1, n1, Sum.inl f) : va_E) ≠ Sum.inl (c2, n2, Sum.inr g) := by
  intro h
  have h2 := congrArg (fun (x : va_E) => match x with | .inl (_, _, .inl _) => true | _ => false) h
  cases h2
def mo_fs (ad : Nat → Nat) (iv : Nat → Int32) : List Value := [.int (iv 0), .int (iv 1), .int (iv 2), .ref (ad 3), .ref (ad 4), .int (iv 5), .ref (ad 6), .ref (ad 7), .ref (ad 8), .ref (ad 9), .int (iv 10), .ref (ad 11), .ref (ad 12), .ref (ad 13), .int (iv 14), .ref (ad 15), .ref (ad 16), .ref (ad 17), .ref (ad 18), .ref (ad 19), .ref (ad 20), .ref (ad 21), .int (iv 22), .ref (ad 23), .ref (ad 24), .ref (ad 25), .int (iv 26), .ref (ad 27), .ref (ad 28), .ref (ad 29), .int (iv 30), .int (iv 31), .ref (ad 32), .ref (ad 33), .ref (ad 34), .ref (ad 35), .int (iv 36), .ref (ad 37), .ref (ad 38), .ref (ad 39)]
def mo_len (k : Nat) : Nat := match k with
  | 3 => 30 | 4 => 30 | 11 => 20 | 12 => 20 | 13 => 20 | 15 => 20 | 16 => 20 | 17 => 20 | 18 => 4 | 19 => 4 | 20 => 160 | 21 => 4 | 29 => 30 | 32 => 241 | 37 => 241 | _ => 240
abbrev mo_ks : List Nat := [3, 4, 6, 7, 8, 9, 11, 12, 13, 15, 16, 17, 18, 19, 20, 21, 23, 24, 25, 27, 28, 29, 32, 33, 34, 35, 37, 38]
abbrev mo_is : List Nat := [0, 1, 2, 5, 10, 14, 22, 26, 30, 31, 36]
def mo_W (dA : Nat → ClassId) (mm : Nat) (ad : Nat → Nat) (iv : Nat → Int32) (ar : Nat → Nat → Int32) (fr : Nat → Int64) (G : tf_Pic) : Prop := G mm = some (.inr (2, mo_fs ad iv)) ∧ (∀ k ∈ mo_ks, G (ad k) = some (.inl (dA 0, mo_len k, .inl (ar k)))) ∧ G (ad 39) = some (.inl (dA 3, 4, .inr (.inl fr))) ∧ ∀ i ∈ mo_ks, ∀ j ∈ mo_ks, ad i = ad j → i = j
theorem mo_up_i {dA : Nat → ClassId} {mm : Nat} {ad : Nat → Nat} {iv : Nat → Int32} {ar : Nat → Nat → Int32} {fr : Nat → Int64} {G : tf_Pic} (hm : mo_W dA mm ad iv ar fr G) (k : Nat) (hk : k ∈ mo_is) (v : Int32) : mo_W dA mm ad (va_up iv k v) ar fr (va_up G mm (some (.inr (2, (mo_fs ad iv).set k (.int v))))) := by
  obtain ⟨h1, h2, h3, h4⟩ := hm
  refine ⟨?_, fun j hj => ?_, ?_, h4⟩
  · rw [va_up_self]
    simp only [List.mem_cons, List.not_mem_nil, or_false] at hk
    rcases hk with h | h | h | h | h | h | h | h | h | h | h <;> (subst h; rfl)
  · exact tf_keep (tf_ne h1 (h2 j hj) (by intro h; cases h)) (h2 j hj)
  · exact tf_keep (tf_ne h1 h3 (by intro h; cases h)) h3
theorem mo_up_a {dA : Nat → ClassId} {mm : Nat} {ad : Nat → Nat} {iv : Nat → Int32} {ar : Nat → Nat → Int32} {fr : Nat → Int64} {G : tf_Pic} (hm : mo_W dA mm ad iv ar fr G) (k : Nat) (hk : k ∈ mo_ks) (f : Nat → Int32) : mo_W dA mm ad iv (va_up ar k f) fr (va_up G (ad k) (some (.inl (dA 0, mo_len k, .inl f)))) := by
  obtain ⟨h1, h2, h3, h4⟩ := hm
  refine ⟨?_, fun j hj => ?_, ?_, h4⟩
  · exact tf_keep (tf_ne (h2 k hk) h1 (by intro h; cases h)) h1
  · by_cases e : j = k
    · subst e
      rw [va_up_self, va_up_self]
    · rw [va_up_ne ar f e]
      exact tf_keep (fun z => e (h4 j hj k hk z)) (h2 j hj)
  · exact tf_keep (tf_ne (h2 k hk) h3 tf_ne_IL.symm) h3
theorem mo_up_f {dA : Nat → ClassId} {mm : Nat} {ad : Nat → Nat} {iv : Nat → Int32} {ar : Nat → Nat → Int32} {fr : Nat → Int64} {G : tf_Pic} (hm : mo_W dA mm ad iv ar fr G) (f : Nat → Int64) : mo_W dA mm ad iv ar f (va_up G (ad 39) (some (.inl (dA 3, 4, .inr (.inl f))))) := by
  obtain ⟨h1, h2, h3, h4⟩ := hm
  refine ⟨?_, fun j hj => ?_, ?_, h4⟩
  · exact tf_keep (tf_ne h3 h1 (by intro h; cases h)) h1
  · exact tf_keep (tf_ne h3 (h2 j hj) tf_ne_IL) (h2 j hj)
  · rw [va_up_self]
section MOR
variable {p : Program} {l : Launch} {e : Env} {R : Room} {s : State} {m : MethodId} {args : Array Value} {below : List Frame} {meth : Method} {c : Code} {H : Heap} {locs : List Loc} {cells slots : Nat} {Q : State → Prop}
variable {cc : ByteArray} {pc nL : Nat} {ls : Array Slot} {rest : List Value} {own : String} {S0 : State} {D : va_G} {dA : Nat → ClassId} {A : Nat → Prop} {H0 : Heap} {G : tf_Pic} {mm : Nat} {ad : Nat → Nat} {iv : Nat → Int32} {ar : Nat → Nat → Int32} {fr : Nat → Int64}
/-- reading the field array kf at k -/
theorem mo_ald (C : tf_C p s m args c cc nL own S0 D dA) (hw : tf_Wd S0 D A H0 G H locs) (hm : mo_W dA mm ad iv ar fr G) (kf : Nat) (hkf : kf ∈ mo_ks) (hn : mo_len kf < 2 ^ 31) (k : Nat) {i v : Int32} (hi : i = nI k) (hk : k < mo_len kf) (hv : ar kf k = v) (hdg : decode cc pc = .ok (.iaload, 1))
    (kk : W p l e R s m args below meth c H locs cells slots Q (F0 m (pc + 1) ls (.int v :: rest))) : W p l e R s m args below meth c H locs cells slots Q (F0 m pc ls (.int i :: .ref (ad kf) :: rest)) := by
  subst hv
  exact tf_iald C hw (hm.2.1 kf hkf) k hi hk hn hdg kk
theorem mo_ast (C : tf_C p s m args c cc nL own S0 D dA) (hw : tf_Wd S0 D A H0 G H locs) (hm : mo_W dA mm ad iv ar fr G) (kf : Nat) (hkf : kf ∈ mo_ks) (hn : mo_len kf < 2 ^ 31) (f : Nat → Int32) (hf : ar kf = f) (k : Nat) {i x : Int32} (hi : i = nI k) (hk : k < mo_len kf) (hdg : decode cc pc = .ok (.iastore, 1))
    (kk : ∀ (G1 : tf_Pic) (H1 : Heap) (locs1 : List Loc), mo_W dA mm ad iv (va_up ar kf (upd f k x)) fr G1 → tf_Wd S0 D A H0 G1 H1 locs1 → W p l e R s m args below meth c H1 locs1 cells slots Q (F0 m (pc + 1) ls rest)) : W p l e R s m args below meth c H locs cells slots Q (F0 m pc ls (.int x :: .int i :: .ref (ad kf) :: rest)) := by
  subst hf
  exact tf_iast C hw (hm.2.1 kf hkf) k hi hk hn hdg (fun H1 locs1 hw1 => kk _ H1 locs1 (mo_up_a hm kf hkf _) hw1)
theorem mo_lald (C : tf_C p s m args c cc nL own S0 D dA) (hw : tf_Wd S0 D A H0 G H locs) (hm : mo_W dA mm ad iv ar fr G) (k : Nat) {i : Int32} {v : Int64} (hi : i = nI k) (hk : k < 4) (hv : fr k = v) (hdg : decode cc pc = .ok (.laload, 1))
    (kk : W p l e R s m args below meth c H locs cells slots Q (F0 m (pc + 1) ls (.long v :: rest))) : W p l e R s m args below meth c H locs cells slots Q (F0 m pc ls (.int i :: .ref (ad 39) :: rest)) := by
  subst hv
  exact tf_lald C hw hm.2.2.1 k hi hk (by decide) hdg kk
theorem mo_last (C : tf_C p s m args c cc nL own S0 D dA) (hw : tf_Wd S0 D A H0 G H locs) (hm : mo_W dA mm ad iv ar fr G) (k : Nat) {i : Int32} {x : Int64} (hi : i = nI k) (hk : k < 4) (hdg : decode cc pc = .ok (.lastore, 1))
    (kk : ∀ (G1 : tf_Pic) (H1 : Heap) (locs1 : List Loc), mo_W dA mm ad iv ar (vp_updL fr k x) G1 → tf_Wd S0 D A H0 G1 H1 locs1 → W p l e R s m args below meth c H1 locs1 cells slots Q (F0 m (pc + 1) ls rest)) : W p l e R s m args below meth c H locs cells slots Q (F0 m pc ls (.long x :: .int i :: .ref (ad 39) :: rest)) :=
  tf_last C hw hm.2.2.1 k hi hk (by decide) hdg (fun H1 locs1 hw1 => kk _ H1 locs1 (mo_up_f hm _) hw1)
/-- a put of an int field behind pf_ -/
theorem mo_put {v : Int32} (hm : mo_W dA mm ad iv ar fr G) (k : Nat) (hk : k ∈ mo_is) {pc2 : Nat} (kk : ∀ (G1 : tf_Pic) (H1 : Heap) (locs1 : List Loc), mo_W dA mm ad (va_up iv k v) ar fr G1 → tf_Wd S0 D A H0 G1 H1 locs1 → W p l e R s m args below meth c H1 locs1 cells slots Q (F0 m pc2 ls rest)) :
    ∀ (H1 : Heap) (locs1 : List Loc), tf_Wd S0 D A H0 (va_up G mm (some (.inr (2, (mo_fs ad iv).set k (.int v))))) H1 locs1 → W p l e R s m args below meth c H1 locs1 cells slots Q (F0 m pc2 ls rest) :=
  fun H1 locs1 hw1 => kk _ H1 locs1 (mo_up_i hm k hk v) hw1
end MOR
theorem pt_b0 {b : Bool} (h : pt_b b = 0) : b = false := by cases b <;> first | rfl | (exact absurd h (by decide))
theorem pt_b1 {b : Bool} (h : ¬ pt_b b = 0) : b = true := by cases b <;> first | rfl | (exact absurd (by decide) h)
/-- between two bounds -/
def pm_in (v lo hi : Int32) : Bool := decide (lo ≤ v) && decide (v ≤ hi)
theorem pm_in_lo {v lo hi : Int32} (h : v < lo) : pm_in v lo hi = false := by simp [pm_in, Int32.not_le.mpr h]
theorem pm_in_hi {v lo hi : Int32} (h : hi < v) : pm_in v lo hi = false := by simp [pm_in, Int32.not_le.mpr h]
theorem pm_in_t {v lo hi : Int32} (h : ¬ v < lo) (h2 : ¬ hi < v) : pm_in v lo hi = true := by simp [pm_in, Int32.not_lt.mp h, Int32.not_lt.mp h2]
/-- a number of things: 0 ≤ t < n -/
def pm_of (t n : Int32) : Bool := decide (0 ≤ t) && decide (t < n)
theorem pm_of_lo {t n : Int32} (h : t < 0) : pm_of t n = false := by simp [pm_of, Int32.not_le.mpr h]
theorem pm_of_hi {t n : Int32} (h : n ≤ t) : pm_of t n = false := by simp [pm_of, Int32.not_lt.mpr h]
theorem pm_of_t {t n : Int32} (h : ¬ t < 0) (h2 : ¬ n ≤ t) : pm_of t n = true := by simp [pm_of, Int32.not_lt.mp h, Int32.not_le.mp h2]
/-- the world with its arrays under another name -/
theorem mo_eq {dA : Nat → ClassId} {mm : Nat} {ad : Nat → Nat} {iv : Nat → Int32} {ar ar2 : Nat → Nat → Int32} {fr : Nat → Int64} {G : tf_Pic} (h : ar = ar2) (hm : mo_W dA mm ad iv ar fr G) : mo_W dA mm ad iv ar2 fr G := h ▸ hm
theorem va_up_uu {α : Type} (f : Nat → α) (k : Nat) {v w w2 : α} (h : w = w2) : va_up (va_up f k v) k w = va_up f k w2 := by
  subst h
  exact bx_uu f k v w
/-- an array by its own contents: nothing has changed -/
theorem va_up_own (f : Nat → Nat → Int32) (k : Nat) {g : Nat → Int32} (h : g = f k) : f = va_up f k g := by
  subst h
  funext j
  by_cases e : j = k
  · rw [e, va_up_self]
  · rw [va_up_ne _ _ e]
theorem va_up_eq20 (f : Nat → Nat → Int32) {g : Nat → Int32} (h : g = f 20) : f = va_up f 20 g := va_up_own f 20 h
