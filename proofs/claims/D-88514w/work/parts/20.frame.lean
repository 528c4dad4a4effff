/-! THE FRAME OF THIS PROOF: one picture G of all cells that the law has made since its start S0; every contract takes it and gives back another. -/
set_option maxRecDepth 100000
/-- the classes (numbers 0..10): TankField, Building, TankFieldModel, Tank, Plain, Over, Steep, Brim, Span, Event, Sheet; of the three subclasses of Plain its fields alone are followed -/
abbrev tf_Cl : List vw_C := [(RX0, TX0, 15), (RX1, TX1, 2), (RX2, TX2, 40), (RX3, TX3, 6), (RX4, TX4, 5), (RX5, TX4, 5), (RX6, TX4, 5), (RX7, TX4, 5), (RX8, TX8, 2), (RX9, TX9, 4), (RX10, TX10, 1)]
/-- the array classes (numbers 0..9) -/
abbrev tf_Ty (dA : Nat → ClassId) : List (ClassId × FieldType) := [(dA 0, .int), (dA 1, .byte), (dA 2, .short), (dA 3, .long), (dA 4, .object RX3), (dA 5, .object RX4), (dA 6, .object RX9), (dA 7, .object RX8), (dA 8, .object RX10), (dA 9, .array .long)]
abbrev tf_Pic : Type := Nat → Option va_E
/-- what a method may touch: the picture's cells, and new ones -/
def tf_A (G : tf_Pic) (sz : Nat) : Nat → Prop := fun q => G q ≠ none ∨ sz ≤ q
def tf_Wh (S0 : State) (D : va_G) (G : tf_Pic) (H : Heap) : Prop := (∀ (a : Nat) (x : va_E), G a = some x → va_at D tf_Cl (a, x) H ∧ S0.heap.size ≤ a) ∧ S0.heap.size ≤ H.size ∧ ∀ q : Nat, q < S0.heap.size → H[q]? = S0.heap[q]?
/-- in a walk: the picture, its cells are A's, since H0 nothing outside A has changed -/
def tf_Wd (S0 : State) (D : va_G) (A : Nat → Prop) (H0 : Heap) (G : tf_Pic) (H : Heap) (locs : List Loc) : Prop := tf_Wh S0 D G H ∧ va_S A H0 H locs ∧ (∀ a, G a ≠ none → A a) ∧ (∀ q, H0.size ≤ q → A q) ∧ (∀ q, A q → S0.heap.size ≤ q) ∧ S0.heap.size ≤ H0.size ∧ ∀ q : Nat, q < S0.heap.size → H0[q]? = S0.heap[q]?
/-- what is known of the start: the classes, the tables' words, what the Statement gives -/
def tf_B (S0 : State) (D : va_G) (dA : Nat → ClassId) : Prop := va_K D tf_Cl (tf_Ty dA) S0 ∧ ∃ b0 : Addr, (∀ w ∈ lw_tbl, w.before #[Value.ref b0] S0 = true) ∧ (Jvm.Cond.and given_1 narrow_1).before #[Value.ref b0] S0 = true
/-- a walk's fixed things: the machine, the code, the class whose method runs, the words, the start -/
def tf_C (p : Program) (s : State) (m : MethodId) (args : Array Value) (c : Code) (cc : ByteArray) (nL : Nat) (own : String) (S0 : State) (D : va_G) (dA : Nat → ClassId) : Prop :=
  p.tables.exec = Jvm.exec ∧ c.code = cc ∧ c.maxLocals = nL ∧ s.vm.findClass own = some m.cls ∧ (∀ w ∈ lw_all, w.before args s = true) ∧ S0.WarmedH s.vm ∧ tf_B S0 D dA
/-- a contract's start: the arguments, the tables as at the start but warmer, the picture -/
def tf_Pc (S0 : State) (D : va_G) (sz : Nat) (G : tf_Pic) (As : List Value) : Array Value → State → Prop := fun v U => v = As.toArray ∧ S0.WarmedH U.vm ∧ tf_Wh S0 D G U.heap ∧ U.heap.size = sz
/-- a contract's end: the new picture, its cells old ones of G or new, the frame -/
def tf_En (S0 : State) (D : va_G) (sz : Nat) (G G1 : tf_Pic) (st t : State) : Prop := tf_Wh S0 D G1 t.heap ∧ va_F (tf_A G sz) st t ∧ ∀ a, G1 a ≠ none → tf_A G sz a
def tf_Qi (S0 : State) (D : va_G) (sz : Nat) (G : tf_Pic) (post : Int32 → tf_Pic → Prop) : Array Value → State → Outcome → State → Prop := fun _ st oc t => ∃ (r : Int32) (G1 : tf_Pic), oc = .returned (some (.int r)) ∧ post r G1 ∧ tf_En S0 D sz G G1 st t
def tf_Ql (S0 : State) (D : va_G) (sz : Nat) (G : tf_Pic) (post : Int64 → tf_Pic → Prop) : Array Value → State → Outcome → State → Prop := fun _ st oc t => ∃ (r : Int64) (G1 : tf_Pic), oc = .returned (some (.long r)) ∧ post r G1 ∧ tf_En S0 D sz G G1 st t
def tf_Qv (S0 : State) (D : va_G) (sz : Nat) (G : tf_Pic) (post : tf_Pic → Prop) : Array Value → State → Outcome → State → Prop := fun _ st oc t => ∃ (G1 : tf_Pic), oc = .returned none ∧ post G1 ∧ tf_En S0 D sz G G1 st t
def tf_Qq (S0 : State) (D : va_G) (sz : Nat) (G : tf_Pic) (post : Option Nat → tf_Pic → Prop) : Array Value → State → Outcome → State → Prop := fun _ st oc t => ∃ (r : Option Nat) (G1 : tf_Pic), oc = .returned (some (va_rf r)) ∧ post r G1 ∧ tf_En S0 D sz G G1 st t
abbrev tf_rm (f k n : Nat) : Room := { frames := f, cells := k, slots := n, locals := 60 * f }
theorem tf_Pc_blind {S0 : State} {D : va_G} {sz : Nat} {G : tf_Pic} {As : List Value} : FrameBlind (tf_Pc S0 D sz G As) := fun _ _ _ _ h => ⟨h.1, h.2.1, h.2.2.1, h.2.2.2⟩
theorem tf_C.hx {p : Program} {s : State} {m : MethodId} {args : Array Value} {c : Code} {cc : ByteArray} {nL : Nat} {own : String} {S0 : State} {D : va_G} {dA : Nat → ClassId} (C : tf_C p s m args c cc nL own S0 D dA) : p.tables.exec = Jvm.exec := C.1
theorem tf_C.hb {p : Program} {s : State} {m : MethodId} {args : Array Value} {c : Code} {cc : ByteArray} {nL : Nat} {own : String} {S0 : State} {D : va_G} {dA : Nat → ClassId} (C : tf_C p s m args c cc nL own S0 D dA) : c.code = cc := C.2.1
theorem tf_C.hml {p : Program} {s : State} {m : MethodId} {args : Array Value} {c : Code} {cc : ByteArray} {nL : Nat} {own : String} {S0 : State} {D : va_G} {dA : Nat → ClassId} (C : tf_C p s m args c cc nL own S0 D dA) : c.maxLocals = nL := C.2.2.1
theorem tf_C.hown {p : Program} {s : State} {m : MethodId} {args : Array Value} {c : Code} {cc : ByteArray} {nL : Nat} {own : String} {S0 : State} {D : va_G} {dA : Nat → ClassId} (C : tf_C p s m args c cc nL own S0 D dA) : s.vm.findClass own = some m.cls := C.2.2.2.1
theorem tf_C.hts {p : Program} {s : State} {m : MethodId} {args : Array Value} {c : Code} {cc : ByteArray} {nL : Nat} {own : String} {S0 : State} {D : va_G} {dA : Nat → ClassId} (C : tf_C p s m args c cc nL own S0 D dA) : ∀ w ∈ lw_all, w.before args s = true := C.2.2.2.2.1
theorem tf_C.warm {p : Program} {s : State} {m : MethodId} {args : Array Value} {c : Code} {cc : ByteArray} {nL : Nat} {own : String} {S0 : State} {D : va_G} {dA : Nat → ClassId} (C : tf_C p s m args c cc nL own S0 D dA) : S0.WarmedH s.vm := C.2.2.2.2.2.1
theorem tf_C.base {p : Program} {s : State} {m : MethodId} {args : Array Value} {c : Code} {cc : ByteArray} {nL : Nat} {own : String} {S0 : State} {D : va_G} {dA : Nat → ClassId} (C : tf_C p s m args c cc nL own S0 D dA) : tf_B S0 D dA := C.2.2.2.2.2.2
theorem tf_C.K {p : Program} {s : State} {m : MethodId} {args : Array Value} {c : Code} {cc : ByteArray} {nL : Nat} {own : String} {S0 : State} {D : va_G} {dA : Nat → ClassId} (C : tf_C p s m args c cc nL own S0 D dA) : va_K D tf_Cl (tf_Ty dA) s := va_K.moved C.warm.alike C.base.1
theorem tf_C.fix {p : Program} {s : State} {m : MethodId} {args : Array Value} {c : Code} {cc : ByteArray} {nL : Nat} {own : String} {S0 : State} {D : va_G} {dA : Nat → ClassId} (C : tf_C p s m args c cc nL own S0 D dA) : CallFix p m c cc nL s args lw_all own := ⟨C.hx, C.hb, C.hml, C.hown, C.hts⟩
/-- all cells of a picture, as a list -/
def tf_ls (G : tf_Pic) (n : Nat) : va_W := (List.range n).filterMap (fun b => (G b).map (fun x => (b, x)))
theorem tf_ls_mem {G : tf_Pic} {n b : Nat} {x : va_E} (h : G b = some x) (hb : b < n) : ∃ k : Nat, (tf_ls G n)[k]? = some (b, x) :=
  List.getElem?_of_mem (List.mem_filterMap.mpr ⟨b, List.mem_range.mpr hb, by rw [h]; rfl⟩)
theorem tf_ls_of {G : tf_Pic} {n k b : Nat} {x : va_E} (h : (tf_ls G n)[k]? = some (b, x)) : G b = some x := by
  obtain ⟨d, -, hq⟩ := List.mem_filterMap.mp (List.mem_of_getElem? h)
  cases hg : G d with
  | none => rw [hg] at hq; cases hq
  | some y => rw [hg] at hq; cases hq; exact hg
theorem tf_ls_inj (G : tf_Pic) (n : Nat) : (tf_ls G n).Pairwise (fun x y => x.1 < y.1) := by
  unfold tf_ls
  rw [List.pairwise_filterMap]
  refine List.Pairwise.imp ?_ List.pairwise_lt_range
  intro x y hxy b hb b' hb'
  cases hx : G x with
  | none => rw [hx] at hb; cases hb
  | some u =>
    cases hy : G y with
    | none => rw [hy] at hb'; cases hb'
    | some v =>
      rw [hx] at hb
      rw [hy] at hb'
      cases hb
      cases hb'
      exact hxy
theorem tf_ls_D {A : Nat → Prop} {G : tf_Pic} (hA : ∀ a, G a ≠ none → A a) (n : Nat) : va_D A (tf_ls G n) := by
  refine ⟨fun i j x y hi hj hxy => ?_, fun k q hk => hA q.1 (by rw [tf_ls_of (show (tf_ls G n)[k]? = some (q.1, q.2) from hk)]; exact fun h => by cases h)⟩
  obtain ⟨h1, e1⟩ := List.getElem?_eq_some_iff.mp hi
  obtain ⟨h2, e2⟩ := List.getElem?_eq_some_iff.mp hj
  have hp := List.pairwise_iff_getElem.mp (tf_ls_inj G n)
  rcases Nat.lt_trichotomy i j with h | h | h
  · have := hp i j h1 h2 h
    rw [e1, e2] at this
    omega
  · exact h
  · have := hp j i h2 h1 h
    rw [e1, e2] at this
    omega
theorem tf_ls_P {S0 : State} {D : va_G} {G : tf_Pic} {H : Heap} (hw : tf_Wh S0 D G H) (n : Nat) : va_P D tf_Cl (tf_ls G n) H := fun _ q hk => (hw.1 q.1 q.2 (tf_ls_of hk)).1
theorem tf_one {S0 : State} {D : va_G} {G : tf_Pic} {H : Heap} {a : Nat} {x : va_E} (hw : tf_Wh S0 D G H) (he : G a = some x) : va_P D tf_Cl [(a, x)] H := by
  intro k q hk
  have hz : k < 1 := (List.getElem?_eq_some_iff.mp hk).1
  rw [show k = 0 by omega] at hk
  cases hk
  exact (hw.1 a x he).1
theorem tf_some {G : tf_Pic} {a : Nat} {x : va_E} (h : G a = some x) : G a ≠ none := by
  rw [h]
  exact fun h => by cases h
theorem tf_lift {S0 : State} {D : va_G} {A : Nat → Prop} {H0 : Heap} {G : tf_Pic} {H H1 : Heap} {locs locs1 : List Loc} {a k : Nat} {x0 x1 : va_E} (hw : tf_Wd S0 D A H0 G H locs) (hk : (tf_ls G H.size)[k]? = some (a, x0)) (hP : va_P D tf_Cl ((tf_ls G H.size).set k (a, x1)) H1) (hS : va_S A H0 H1 locs1) : tf_Wd S0 D A H0 (va_up G a (some x1)) H1 locs1 := by
  have hl := (List.getElem?_eq_some_iff.mp hk).1
  obtain ⟨hh, -, hA, hN, hZ, hz0, ho0⟩ := hw
  refine ⟨⟨fun b x hb => ?_, Nat.le_trans hz0 hS.1, fun q h => (hS.2.1 q (Nat.lt_of_lt_of_le h hz0) (fun z => Nat.lt_irrefl _ (Nat.lt_of_lt_of_le h (hZ q z)))).trans (ho0 q h)⟩, hS, fun b hb => ?_, hN, hZ, hz0, ho0⟩
  · by_cases h : b = a
    · subst h
      rw [va_up_self] at hb
      cases hb
      exact ⟨hP k _ (List.getElem?_set_self hl), (hh.1 b x0 (tf_ls_of hk)).2⟩
    · rw [va_up_ne _ _ h] at hb
      obtain ⟨h1, h2⟩ := hh.1 b x hb
      obtain ⟨j, hj⟩ := tf_ls_mem hb h1.lt
      have hjk : k ≠ j := by
        intro hkj
        subst hkj
        rw [hk] at hj
        cases hj
        exact h rfl
      exact ⟨hP j _ (by rw [List.getElem?_set_ne hjk]; exact hj), h2⟩
  · by_cases h : b = a
    · subst h
      exact hA b (tf_some (tf_ls_of hk))
    · rw [va_up_ne _ _ h] at hb
      exact hA b hb
theorem tf_liftN {S0 : State} {D : va_G} {A : Nat → Prop} {H0 : Heap} {G : tf_Pic} {H H1 : Heap} {locs locs1 : List Loc} {q : Nat} {x1 : va_E} (hw : tf_Wd S0 D A H0 G H locs) (hP : va_P D tf_Cl (tf_ls G H.size ++ [(q, x1)]) H1) (hD : va_D A (tf_ls G H.size ++ [(q, x1)])) (hS : va_S A H0 H1 locs1) : G q = none ∧ tf_Wd S0 D A H0 (va_up G q (some x1)) H1 locs1 := by
  have hlast : (tf_ls G H.size ++ [(q, x1)])[(tf_ls G H.size).length]? = some (q, x1) := by rw [List.getElem?_append_right (Nat.le_refl _), Nat.sub_self]; rfl
  have hold : ∀ (k : Nat) (y : Nat × va_E), (tf_ls G H.size)[k]? = some y → (tf_ls G H.size ++ [(q, x1)])[k]? = some y := fun k y h => by
    rw [List.getElem?_append_left (List.getElem?_eq_some_iff.mp h).1]; exact h
  obtain ⟨hh, -, hA, hN, hZ, hz0, ho0⟩ := hw
  have hq : G q = none := by
    cases hg : G q with
    | none => rfl
    | some y =>
      obtain ⟨k, hk⟩ := tf_ls_mem hg (hh.1 q y hg).1.lt
      have := hD.1 k _ _ _ (hold k _ hk) hlast rfl
      have hl := (List.getElem?_eq_some_iff.mp hk).1
      omega
  refine ⟨hq, ⟨fun b x hb => ?_, Nat.le_trans hz0 hS.1, fun q h => (hS.2.1 q (Nat.lt_of_lt_of_le h hz0) (fun z => Nat.lt_irrefl _ (Nat.lt_of_lt_of_le h (hZ q z)))).trans (ho0 q h)⟩, hS, fun b hb => ?_, hN, hZ, hz0, ho0⟩
  · by_cases h : b = q
    · subst h
      rw [va_up_self] at hb
      cases hb
      exact ⟨hP _ _ hlast, hZ _ (hD.2 _ _ hlast)⟩
    · rw [va_up_ne _ _ h] at hb
      obtain ⟨h1, h2⟩ := hh.1 b x hb
      obtain ⟨j, hj⟩ := tf_ls_mem hb h1.lt
      exact ⟨hP j _ (hold j _ hj), h2⟩
  · by_cases h : b = q
    · subst h
      exact hD.2 _ _ hlast
    · rw [va_up_ne _ _ h] at hb
      exact hA b hb
/-- an old cell is still there behind a new one -/
theorem tf_old {G : tf_Pic} {q b : Nat} {x : va_E} {y : Option va_E} (hq : G q = none) (h : G b = some x) : va_up G q y b = some x := by
  rw [va_up_ne]
  · exact h
  · intro e
    rw [e, hq] at h
    cases h
theorem tf_keep {G : tf_Pic} {a b : Nat} {x : va_E} {y : Option va_E} (hn : b ≠ a) (h : G b = some x) : va_up G a y b = some x := by
  rw [va_up_ne _ _ hn]
  exact h
theorem tf_ne {G : tf_Pic} {a b : Nat} {x y : va_E} (ha : G a = some x) (hb : G b = some y) (h : y ≠ x) : b ≠ a := fun e => by
  rw [e, ha] at hb
  exact h (Option.some.inj hb).symm
