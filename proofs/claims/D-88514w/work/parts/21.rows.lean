/-! ROWS OVER THE PICTURE: an instruction that reads or writes the heap -/
set_option maxRecDepth 100000
section TFR
variable {p : Program} {l : Launch} {e : Env} {R : Room} {s : State} {m : MethodId} {args : Array Value} {below : List Frame} {meth : Method} {c : Code} {H : Heap} {locs : List Loc} {cells slots : Nat} {Q : State → Prop}
variable {cc : ByteArray} {pc nL : Nat} {ls : Array Slot} {rest : List Value} {own : String} {S0 : State} {D : va_G} {dA : Nat → ClassId} {A : Nat → Prop} {H0 : Heap} {G : tf_Pic} {a : Nat}
/-- nI and clamp -/
theorem tf_cl {i : Int32} {k n : Nat} (hi : i = nI k) (hk : k < n) (hn : n < 2 ^ 31) : vp_in i n ∧ i.toNatClampNeg = k := by
  subst hi
  exact ⟨vp_in_nI hk hn, nI_clamp (by omega)⟩
theorem tf_get (C : tf_C p s m args c cc nL own S0 D dA) (hw : tf_Wd S0 D A H0 G H locs) {ci : Nat} {fs : List Value} (he : G a = some (.inr (ci, fs))) {Cn ref : String} {T : u_T} {N index : Nat} (hc : tf_Cl[ci]? = some (Cn, T, N)) (hin : ∀ w ∈ u_ws Cn T N, w ∈ lw_all) (k : Nat) (hk : k < N) (hlink : Cond.fieldLink own index ref (T k).2.1 (T k).2.2.1 ∈ lw_all)
    (hsame : ∀ x, s.fieldFound? (T k).1 (T k).2.1 (T k).2.2.1 = some x → s.fieldFound? ref (T k).2.1 (T k).2.2.1 = some x) {v : Value} (hv : fs[k]? = some v) (hdg : decode cc pc = .ok (.getfield index, 3))
    (kk : W p l e R s m args below meth c H locs cells slots Q (F0 m (pc + 3) ls (v :: rest))) : W p l e R s m args below meth c H locs cells slots Q (F0 m pc ls (.ref a :: rest)) :=
  va_get C.hx C.hb C.hts hin C.hown C.K (tf_one hw.1 he) 0 rfl hc k hk (C.hts _ hlink) hsame hv hdg kk
theorem tf_getN (C : tf_C p s m args c cc nL own S0 D dA) (hw : tf_Wd S0 D A H0 G H locs) {ci : Nat} {fs : List Value} (he : G a = some (.inr (ci, fs))) {Cn ref host : String} {T : u_T} {N index : Nat} (hc : tf_Cl[ci]? = some (Cn, T, N)) (hin : ∀ w ∈ u_ws Cn T N, w ∈ lw_all) (k : Nat) (hk : k < N) (hlink : Cond.fieldLinkNest own index ref (T k).2.1 (T k).2.2.1 host ∈ lw_tbl)
    (hsame : ∀ x, s.fieldFound? (T k).1 (T k).2.1 (T k).2.2.1 = some x → s.fieldFound? ref (T k).2.1 (T k).2.2.1 = some x) {v : Value} (hv : fs[k]? = some v) (hdg : decode cc pc = .ok (.getfield index, 3))
    (kk : W p l e R s m args below meth c H locs cells slots Q (F0 m (pc + 3) ls (v :: rest))) : W p l e R s m args below meth c H locs cells slots Q (F0 m pc ls (.ref a :: rest)) := by
  obtain ⟨b0, h0, -⟩ := C.base.2
  exact va_getN C.hx C.hb C.hts hin C.hown C.K (tf_one hw.1 he) 0 rfl hc k hk (va_Nw.use rfl (va_Nw.warmF C.warm (va_Nw.of rfl (h0 _ hlink)))) hsame hv hdg kk
theorem tf_put (C : tf_C p s m args c cc nL own S0 D dA) (hw : tf_Wd S0 D A H0 G H locs) {ci : Nat} {fs : List Value} (he : G a = some (.inr (ci, fs))) {Cn ref : String} {T : u_T} {N index : Nat} (hc : tf_Cl[ci]? = some (Cn, T, N)) (hin : ∀ w ∈ u_ws Cn T N, w ∈ lw_all) (ty0 : Nat → FieldType) (hty : ∀ k, k < N → parseFieldDescriptor (T k).2.2.1 = some (ty0 k)) (hnm : ∀ a, a < N → ∀ b, b < N → a ≠ b → (T a).2.1 ≠ (T b).2.1) (k : Nat) (hk : k < N) (hlink : Cond.fieldLink own index ref (T k).2.1 (T k).2.2.1 ∈ lw_all)
    (hsame : ∀ x, s.fieldFound? (T k).1 (T k).2.1 (T k).2.2.1 = some x → s.fieldFound? ref (T k).2.1 (T k).2.2.1 = some x) (hfin : (T k).2.2.2 = false) {ty : FieldType} {v : Value} (hd : parseFieldDescriptor (T k).2.2.1 = some ty) (hn : narrow ty v = v) (hfit : fits ty v = true) (hl : k < fs.length) (hdg : decode cc pc = .ok (.putfield index, 3))
    (kk : ∀ (H1 : Heap) (locs1 : List Loc), tf_Wd S0 D A H0 (va_up G a (some (.inr (ci, fs.set k v)))) H1 locs1 → W p l e R s m args below meth c H1 locs1 cells slots Q (F0 m (pc + 3) ls rest)) : W p l e R s m args below meth c H locs cells slots Q (F0 m pc ls (v :: .ref a :: rest)) := by
  obtain ⟨q0, hq⟩ := tf_ls_mem he (hw.1.1 a _ he).1.lt
  exact va_put C.hx C.hb C.hts hin ty0 hty hnm C.hown C.K (tf_ls_P hw.1 H.size) (tf_ls_D hw.2.2.1 H.size) hw.2.1 q0 hq hc k hk (C.hts _ hlink) hsame hfin hd hn hfit hl hdg (fun H1 locs1 hP _ hS => kk H1 locs1 (tf_lift hw hq hP hS))
theorem tf_putN (C : tf_C p s m args c cc nL own S0 D dA) (hw : tf_Wd S0 D A H0 G H locs) {ci : Nat} {fs : List Value} (he : G a = some (.inr (ci, fs))) {Cn ref host : String} {T : u_T} {N index : Nat} (hc : tf_Cl[ci]? = some (Cn, T, N)) (hin : ∀ w ∈ u_ws Cn T N, w ∈ lw_all) (ty0 : Nat → FieldType) (hty : ∀ k, k < N → parseFieldDescriptor (T k).2.2.1 = some (ty0 k)) (hnm : ∀ a, a < N → ∀ b, b < N → a ≠ b → (T a).2.1 ≠ (T b).2.1) (k : Nat) (hk : k < N) (hlink : Cond.fieldLinkNest own index ref (T k).2.1 (T k).2.2.1 host ∈ lw_tbl)
    (hsame : ∀ x, s.fieldFound? (T k).1 (T k).2.1 (T k).2.2.1 = some x → s.fieldFound? ref (T k).2.1 (T k).2.2.1 = some x) (hfin : (T k).2.2.2 = false) {ty : FieldType} {v : Value} (hd : parseFieldDescriptor (T k).2.2.1 = some ty) (hn : narrow ty v = v) (hfit : fits ty v = true) (hl : k < fs.length) (hdg : decode cc pc = .ok (.putfield index, 3))
    (kk : ∀ (H1 : Heap) (locs1 : List Loc), tf_Wd S0 D A H0 (va_up G a (some (.inr (ci, fs.set k v)))) H1 locs1 → W p l e R s m args below meth c H1 locs1 cells slots Q (F0 m (pc + 3) ls rest)) : W p l e R s m args below meth c H locs cells slots Q (F0 m pc ls (v :: .ref a :: rest)) := by
  obtain ⟨q0, hq⟩ := tf_ls_mem he (hw.1.1 a _ he).1.lt
  obtain ⟨b0, h0, -⟩ := C.base.2
  exact va_putN C.hx C.hb C.hts hin ty0 hty hnm C.hown C.K (tf_ls_P hw.1 H.size) (tf_ls_D hw.2.2.1 H.size) hw.2.1 q0 hq hc k hk (va_Nw.use rfl (va_Nw.warmF C.warm (va_Nw.of rfl (h0 _ hlink)))) hsame hfin hd hn hfit hl hdg (fun H1 locs1 hP _ hS => kk H1 locs1 (tf_lift hw hq hP hS))
theorem tf_putF (C : tf_C p s m args c cc nL own S0 D dA) (hw : tf_Wd S0 D A H0 G H locs) {ci : Nat} {fs : List Value} (he : G a = some (.inr (ci, fs))) {Cn ref : String} {T : u_T} {N index : Nat} (hc : tf_Cl[ci]? = some (Cn, T, N)) (hin : ∀ w ∈ u_ws Cn T N, w ∈ lw_all) (ty0 : Nat → FieldType) (hty : ∀ k, k < N → parseFieldDescriptor (T k).2.2.1 = some (ty0 k)) (hnm : ∀ a, a < N → ∀ b, b < N → a ≠ b → (T a).2.1 ≠ (T b).2.1) (k : Nat) (hk : k < N) (hlink : Cond.fieldLink own index ref (T k).2.1 (T k).2.2.1 ∈ lw_all)
    (hsame : ∀ x, s.fieldFound? (T k).1 (T k).2.1 (T k).2.2.1 = some x → s.fieldFound? ref (T k).2.1 (T k).2.2.1 = some x) (hfin : (T k).2.2.2 = true) (hin2 : meth.name = "<init>") (hdecl : (T k).1 = own) {ty : FieldType} {v : Value} (hd : parseFieldDescriptor (T k).2.2.1 = some ty) (hn : narrow ty v = v) (hfit : fits ty v = true) (hl : k < fs.length) (hdg : decode cc pc = .ok (.putfield index, 3))
    (kk : ∀ (H1 : Heap) (locs1 : List Loc), tf_Wd S0 D A H0 (va_up G a (some (.inr (ci, fs.set k v)))) H1 locs1 → W p l e R s m args below meth c H1 locs1 cells slots Q (F0 m (pc + 3) ls rest)) : W p l e R s m args below meth c H locs cells slots Q (F0 m pc ls (v :: .ref a :: rest)) := by
  obtain ⟨q0, hq⟩ := tf_ls_mem he (hw.1.1 a _ he).1.lt
  exact va_putF C.hx C.hb C.hts hin ty0 hty hnm C.hown C.K (tf_ls_P hw.1 H.size) (tf_ls_D hw.2.2.1 H.size) hw.2.1 q0 hq hc k hk (C.hts _ hlink) hsame hfin hin2 hdecl hd hn hfit hl hdg (fun H1 locs1 hP _ hS => kk H1 locs1 (tf_lift hw hq hP hS))
/-- arrays of ints -/
theorem tf_iald (C : tf_C p s m args c cc nL own S0 D dA) (hw : tf_Wd S0 D A H0 G H locs) {n : Nat} {f : Nat → Int32} (he : G a = some (.inl (dA 0, n, .inl f))) (k : Nat) {i : Int32} (hi : i = nI k) (hk : k < n) (hn : n < 2 ^ 31) (hdg : decode cc pc = .ok (.iaload, 1))
    (kk : W p l e R s m args below meth c H locs cells slots Q (F0 m (pc + 1) ls (.int (f k) :: rest))) : W p l e R s m args below meth c H locs cells slots Q (F0 m pc ls (.int i :: .ref a :: rest)) := by
  obtain ⟨h1, h2⟩ := tf_cl hi hk hn
  subst h2
  exact va_iald C.hx C.hb C.K (tf_one hw.1 he) 0 0 rfl rfl h1 hdg kk
theorem tf_bald (C : tf_C p s m args c cc nL own S0 D dA) (hw : tf_Wd S0 D A H0 G H locs) {n : Nat} {f : Nat → Int32} (he : G a = some (.inl (dA 1, n, .inl f))) (k : Nat) {i : Int32} (hi : i = nI k) (hk : k < n) (hn : n < 2 ^ 31) (hdg : decode cc pc = .ok (.baload, 1))
    (kk : W p l e R s m args below meth c H locs cells slots Q (F0 m (pc + 1) ls (.int (f k) :: rest))) : W p l e R s m args below meth c H locs cells slots Q (F0 m pc ls (.int i :: .ref a :: rest)) := by
  obtain ⟨h1, h2⟩ := tf_cl hi hk hn
  subst h2
  exact va_bald C.hx C.hb C.K (tf_one hw.1 he) 0 1 rfl rfl h1 hdg kk
theorem tf_sald (C : tf_C p s m args c cc nL own S0 D dA) (hw : tf_Wd S0 D A H0 G H locs) {n : Nat} {f : Nat → Int32} (he : G a = some (.inl (dA 2, n, .inl f))) (k : Nat) {i : Int32} (hi : i = nI k) (hk : k < n) (hn : n < 2 ^ 31) (hdg : decode cc pc = .ok (.saload, 1))
    (kk : W p l e R s m args below meth c H locs cells slots Q (F0 m (pc + 1) ls (.int (f k) :: rest))) : W p l e R s m args below meth c H locs cells slots Q (F0 m pc ls (.int i :: .ref a :: rest)) := by
  obtain ⟨h1, h2⟩ := tf_cl hi hk hn
  subst h2
  exact va_sald C.hx C.hb C.K (tf_one hw.1 he) 0 2 rfl rfl h1 hdg kk
theorem tf_lald (C : tf_C p s m args c cc nL own S0 D dA) (hw : tf_Wd S0 D A H0 G H locs) {n : Nat} {f : Nat → Int64} (he : G a = some (.inl (dA 3, n, .inr (.inl f)))) (k : Nat) {i : Int32} (hi : i = nI k) (hk : k < n) (hn : n < 2 ^ 31) (hdg : decode cc pc = .ok (.laload, 1))
    (kk : W p l e R s m args below meth c H locs cells slots Q (F0 m (pc + 1) ls (.long (f k) :: rest))) : W p l e R s m args below meth c H locs cells slots Q (F0 m pc ls (.int i :: .ref a :: rest)) := by
  obtain ⟨h1, h2⟩ := tf_cl hi hk hn
  subst h2
  exact va_lald C.hx C.hb C.K (tf_one hw.1 he) 0 3 rfl rfl h1 hdg kk
theorem tf_aald (C : tf_C p s m args c cc nL own S0 D dA) (hw : tf_Wd S0 D A H0 G H locs) (t : Nat) {cA : ClassId} {ty : FieldType} (ht : (tf_Ty dA)[t]? = some (cA, ty)) (hty : ty.isReference = true) {n : Nat} {f : Nat → Option Nat} (he : G a = some (.inl (cA, n, .inr (.inr (.inr (.inr f)))))) (k : Nat) {i : Int32} (hi : i = nI k) (hk : k < n) (hn : n < 2 ^ 31) {v : Value} (hv : va_rf (f k) = v) (hdg : decode cc pc = .ok (.aaload, 1))
    (kk : W p l e R s m args below meth c H locs cells slots Q (F0 m (pc + 1) ls (v :: rest))) : W p l e R s m args below meth c H locs cells slots Q (F0 m pc ls (.int i :: .ref a :: rest)) := by
  obtain ⟨h1, h2⟩ := tf_cl hi hk hn
  subst h2
  subst hv
  exact W.aald (v := va_rf (f i.toNatClampNeg)) (ty := ty) C.hx C.hb (tf_one hw.1 he 0 _ rfl) ((C.K.2 t _ ht).1 n (fun j => va_rf (f j))) hty (fun q => by cases q) (by show ¬ (i < 0 ∨ (arrV _ _ _).slots.size ≤ _); rw [arrV_size]; exact h1) (by show (arrV _ _ _).slots[_]? = _; rw [arrV_read _ _ hk]) rfl rfl hdg kk
theorem tf_iast (C : tf_C p s m args c cc nL own S0 D dA) (hw : tf_Wd S0 D A H0 G H locs) {n : Nat} {f : Nat → Int32} (he : G a = some (.inl (dA 0, n, .inl f))) (k : Nat) {i x : Int32} (hi : i = nI k) (hk : k < n) (hn : n < 2 ^ 31) (hdg : decode cc pc = .ok (.iastore, 1))
    (kk : ∀ (H1 : Heap) (locs1 : List Loc), tf_Wd S0 D A H0 (va_up G a (some (.inl (dA 0, n, .inl (upd f k x))))) H1 locs1 → W p l e R s m args below meth c H1 locs1 cells slots Q (F0 m (pc + 1) ls rest)) : W p l e R s m args below meth c H locs cells slots Q (F0 m pc ls (.int x :: .int i :: .ref a :: rest)) := by
  obtain ⟨h1, h2⟩ := tf_cl hi hk hn
  subst h2
  obtain ⟨q0, hq⟩ := tf_ls_mem he (hw.1.1 a _ he).1.lt
  exact va_iast C.hx C.hb C.K (tf_ls_P hw.1 H.size) (tf_ls_D hw.2.2.1 H.size) hw.2.1 q0 0 hq rfl h1 hdg (fun H1 locs1 hP _ hS => kk H1 locs1 (tf_lift hw hq hP hS))
theorem tf_bast (C : tf_C p s m args c cc nL own S0 D dA) (hw : tf_Wd S0 D A H0 G H locs) {n : Nat} {f : Nat → Int32} (he : G a = some (.inl (dA 1, n, .inl f))) (k : Nat) {i x : Int32} (hi : i = nI k) (hk : k < n) (hn : n < 2 ^ 31) (hdg : decode cc pc = .ok (.bastore, 1))
    (kk : ∀ (H1 : Heap) (locs1 : List Loc), tf_Wd S0 D A H0 (va_up G a (some (.inl (dA 1, n, .inl (upd f k (vp_nar .byte x)))))) H1 locs1 → W p l e R s m args below meth c H1 locs1 cells slots Q (F0 m (pc + 1) ls rest)) : W p l e R s m args below meth c H locs cells slots Q (F0 m pc ls (.int x :: .int i :: .ref a :: rest)) := by
  obtain ⟨h1, h2⟩ := tf_cl hi hk hn
  subst h2
  obtain ⟨q0, hq⟩ := tf_ls_mem he (hw.1.1 a _ he).1.lt
  exact va_bast C.hx C.hb C.K (tf_ls_P hw.1 H.size) (tf_ls_D hw.2.2.1 H.size) hw.2.1 q0 1 hq rfl h1 hdg (fun H1 locs1 hP _ hS => kk H1 locs1 (tf_lift hw hq hP hS))
theorem tf_sast (C : tf_C p s m args c cc nL own S0 D dA) (hw : tf_Wd S0 D A H0 G H locs) {n : Nat} {f : Nat → Int32} (he : G a = some (.inl (dA 2, n, .inl f))) (k : Nat) {i x : Int32} (hi : i = nI k) (hk : k < n) (hn : n < 2 ^ 31) (hdg : decode cc pc = .ok (.sastore, 1))
    (kk : ∀ (H1 : Heap) (locs1 : List Loc), tf_Wd S0 D A H0 (va_up G a (some (.inl (dA 2, n, .inl (upd f k (vp_nar .short x)))))) H1 locs1 → W p l e R s m args below meth c H1 locs1 cells slots Q (F0 m (pc + 1) ls rest)) : W p l e R s m args below meth c H locs cells slots Q (F0 m pc ls (.int x :: .int i :: .ref a :: rest)) := by
  obtain ⟨h1, h2⟩ := tf_cl hi hk hn
  subst h2
  obtain ⟨q0, hq⟩ := tf_ls_mem he (hw.1.1 a _ he).1.lt
  exact va_sast C.hx C.hb C.K (tf_ls_P hw.1 H.size) (tf_ls_D hw.2.2.1 H.size) hw.2.1 q0 2 hq rfl h1 hdg (fun H1 locs1 hP _ hS => kk H1 locs1 (tf_lift hw hq hP hS))
theorem tf_last (C : tf_C p s m args c cc nL own S0 D dA) (hw : tf_Wd S0 D A H0 G H locs) {n : Nat} {f : Nat → Int64} (he : G a = some (.inl (dA 3, n, .inr (.inl f)))) (k : Nat) {i : Int32} {x : Int64} (hi : i = nI k) (hk : k < n) (hn : n < 2 ^ 31) (hdg : decode cc pc = .ok (.lastore, 1))
    (kk : ∀ (H1 : Heap) (locs1 : List Loc), tf_Wd S0 D A H0 (va_up G a (some (.inl (dA 3, n, .inr (.inl (vp_updL f k x)))))) H1 locs1 → W p l e R s m args below meth c H1 locs1 cells slots Q (F0 m (pc + 1) ls rest)) : W p l e R s m args below meth c H locs cells slots Q (F0 m pc ls (.long x :: .int i :: .ref a :: rest)) := by
  obtain ⟨h1, h2⟩ := tf_cl hi hk hn
  subst h2
  obtain ⟨q0, hq⟩ := tf_ls_mem he (hw.1.1 a _ he).1.lt
  exact va_last C.hx C.hb C.K (tf_ls_P hw.1 H.size) (tf_ls_D hw.2.2.1 H.size) hw.2.1 q0 3 hq rfl h1 hdg (fun H1 locs1 hP _ hS => kk H1 locs1 (tf_lift hw hq hP hS))
/-- a reference to an object of the array's own component class -/
theorem tf_aast (C : tf_C p s m args c cc nL own S0 D dA) (hw : tf_Wd S0 D A H0 G H locs) (t ci : Nat) {cA : ClassId} {r : vw_C} (ht : (tf_Ty dA)[t]? = some (cA, .object r.1)) (hc : tf_Cl[ci]? = some r) {n : Nat} {f : Nat → Option Nat} (he : G a = some (.inl (cA, n, .inr (.inr (.inr (.inr f)))))) (k : Nat) {i : Int32} (hi : i = nI k) (hk : k < n) (hn : n < 2 ^ 31) {v : Nat} {fs : List Value} (hv : G v = some (.inr (ci, fs))) (hdg : decode cc pc = .ok (.aastore, 1))
    (kk : ∀ (H1 : Heap) (locs1 : List Loc), tf_Wd S0 D A H0 (va_up G a (some (.inl (cA, n, .inr (.inr (.inr (.inr (va_up f k (some v)))))))) ) H1 locs1 → W p l e R s m args below meth c H1 locs1 cells slots Q (F0 m (pc + 1) ls rest)) : W p l e R s m args below meth c H locs cells slots Q (F0 m pc ls (.ref v :: .int i :: .ref a :: rest)) := by
  obtain ⟨h1, h2⟩ := tf_cl hi hk hn
  subst h2
  obtain ⟨q0, hq⟩ := tf_ls_mem he (hw.1.1 a _ he).1.lt
  obtain ⟨q1, hq1⟩ := tf_ls_mem hv (hw.1.1 v _ hv).1.lt
  exact va_astq C.hx C.hb C.K (tf_ls_P hw.1 H.size) (tf_ls_D hw.2.2.1 H.size) hw.2.1 q0 t q1 ci hq ht hq1 hc h1 hdg (fun H1 locs1 hP _ hS => kk H1 locs1 (tf_lift hw hq hP hS))
theorem tf_aastN (C : tf_C p s m args c cc nL own S0 D dA) (hw : tf_Wd S0 D A H0 G H locs) (t : Nat) {cA : ClassId} {Cn : String} (ht : (tf_Ty dA)[t]? = some (cA, .object Cn)) {n : Nat} {f : Nat → Option Nat} (he : G a = some (.inl (cA, n, .inr (.inr (.inr (.inr f)))))) (k : Nat) {i : Int32} (hi : i = nI k) (hk : k < n) (hn : n < 2 ^ 31) (hdg : decode cc pc = .ok (.aastore, 1))
    (kk : ∀ (H1 : Heap) (locs1 : List Loc), tf_Wd S0 D A H0 (va_up G a (some (.inl (cA, n, .inr (.inr (.inr (.inr (va_up f k none))))))) ) H1 locs1 → W p l e R s m args below meth c H1 locs1 cells slots Q (F0 m (pc + 1) ls rest)) : W p l e R s m args below meth c H locs cells slots Q (F0 m pc ls (.null :: .int i :: .ref a :: rest)) := by
  obtain ⟨h1, h2⟩ := tf_cl hi hk hn
  subst h2
  obtain ⟨q0, hq⟩ := tf_ls_mem he (hw.1.1 a _ he).1.lt
  exact va_astqN C.hx C.hb C.K (tf_ls_P hw.1 H.size) (tf_ls_D hw.2.2.1 H.size) hw.2.1 q0 t hq ht h1 hdg (fun H1 locs1 hP _ hS => kk H1 locs1 (tf_lift hw hq hP hS))
theorem tf_alen (C : tf_C p s m args c cc nL own S0 D dA) (hw : tf_Wd S0 D A H0 G H locs) (t : Nat) {cA : ClassId} {ty : FieldType} (ht : (tf_Ty dA)[t]? = some (cA, ty)) {x : vp_A} (he : G a = some (.inl (cA, x))) (hdg : decode cc pc = .ok (.arraylength, 1))
    (kk : W p l e R s m args below meth c H locs cells slots Q (F0 m (pc + 1) ls (.int (nI x.1) :: rest))) : W p l e R s m args below meth c H locs cells slots Q (F0 m pc ls (.ref a :: rest)) :=
  va_alen C.hx C.hb C.K (tf_one hw.1 he) 0 t rfl ht rfl hdg kk
/-- new objects and arrays -/
theorem tf_new (C : tf_C p s m args c cc nL own S0 D dA) (hw : tf_Wd S0 D A H0 G H locs) (ci : Nat) {Cn : String} {T : u_T} {N Ni index : Nat} (hc : tf_Cl[ci]? = some (Cn, T, N)) (hin : ∀ w ∈ u_ws Cn T N, w ∈ lw_all) (ty0 : Nat → FieldType) (hty : ∀ k, k < N → parseFieldDescriptor (T k).2.2.1 = some (ty0 k)) (hcl : Cond.classLink own index Cn ∈ lw_all) (hins : Cond.instantiable Cn Ni ∈ lw_all) (hini : Cond.initialized Cn ∈ lw_all)
    {fs : List Value} (hfs : ∀ j, j < N → defaultValue (ty0 j) = vp_V fs j) (hcells : cells + 1 ≤ R.cells) (hslots : slots + Ni ≤ R.slots) (hdg : decode cc pc = .ok (.new index, 3))
    (kk : ∀ (q : Nat) (H1 : Heap), G q = none → tf_Wd S0 D A H0 (va_up G q (some (.inr (ci, fs)))) H1 locs → W p l e R s m args below meth c H1 locs (cells + 1) (slots + Ni) Q (F0 m (pc + 3) ls (.ref q :: rest))) : W p l e R s m args below meth c H locs cells slots Q (F0 m pc ls rest) := by
  have hKn := C.K.1 ci _ hc
  refine W.newcK C.hx C.hb C.hown (C.hts _ hcl) (C.hts _ hins) (C.hts _ hini) rfl hdg hcells hslots hKn.2.1 rfl fun H1 kC hkC e1 z1 o1 => ?_
  have hP := tf_ls_P hw.1 H.size
  have hk : ∀ (k : Nat) (x : Nat × va_E), (tf_ls G H.size)[k]? = some x → H1[x.1]? = H[x.1]? := fun k x hx => o1 x.1 ((hP k x hx).lt)
  have hS := hw.2.1
  have hN := hw.2.2.2.1
  obtain ⟨n1, n2⟩ := tf_liftN (q := H.size) (x1 := .inr (ci, fs)) (locs1 := locs) hw ((hP.kept hk).app (fun k x hx => by
    have hz : k < 1 := (List.getElem?_eq_some_iff.mp hx).1
    rw [show k = 0 by omega] at hx
    cases hx
    exact ⟨_, hc, (u_born ty0 C.hts hin hKn hkC e1 hty).to hfs⟩)) ((tf_ls_D hw.2.2.1 H.size).push hP rfl (hN _ hS.1)) ⟨Nat.le_trans hS.1 (by omega), fun x h1 h2 => (o1 x (Nat.lt_of_lt_of_le h1 hS.1)).trans (hS.2.1 x h1 h2), hS.2.2⟩
  exact kk H.size H1 n1 n2
theorem tf_newa (C : tf_C p s m args c cc nL own S0 D dA) (hw : tf_Wd S0 D A H0 G H locs) (t : Nat) {atype : ArrayType} {cA : ClassId} (ht : (tf_Ty dA)[t]? = some (cA, newarray.typeOf atype)) (hnm : ∀ U : State, va_RA U cA (newarray.typeOf atype) → U.vm.findClass ("[" ++ (newarray.typeOf atype).toString) = some cA) (harr : Cond.arrayClass (newarray.typeOf atype) ∈ lw_all)
    {n : Int32} (N' : Nat) {a0 : vp_A} (ha : ∀ cA : ClassId, vp_cell cA a0 = arrV cA N' (fun _ => defaultValue (newarray.typeOf atype))) (hn : n = nI N') (hN : N' < 1000000) (hby : componentBytes (newarray.typeOf atype) ≤ 8) (hcells : cells + 1 ≤ R.cells) (hslots : slots + N' ≤ R.slots) (hdg : decode cc pc = .ok (.newarray atype, 2))
    (kk : ∀ (q : Nat) (H1 : Heap), G q = none → tf_Wd S0 D A H0 (va_up G q (some (.inl (cA, a0)))) H1 locs → W p l e R s m args below meth c H1 locs (cells + 1) (slots + N') Q (F0 m (pc + 2) ls (.ref q :: rest))) : W p l e R s m args below meth c H locs cells slots Q (F0 m pc ls (.int n :: rest)) := by
  subst hn
  refine va_newaK C.hx C.hb (C.hts _ harr) rfl hdg rfl (nI_pos (by omega)) (nI_clamp (by omega)) (Nat.le_trans (Nat.mul_le_mul_left _ hby) (by omega)) hcells hslots rfl fun H1 cA1 e1 z1 o1 hAr hNm => ?_
  have hcA : cA1 = cA := Option.some.inj (hNm.symm.trans (hnm s (C.K.2 t _ ht).2))
  subst hcA
  have hP := tf_ls_P hw.1 H.size
  have hk : ∀ (k : Nat) (x : Nat × va_E), (tf_ls G H.size)[k]? = some x → H1[x.1]? = H[x.1]? := fun k x hx => o1 x.1 ((hP k x hx).lt)
  have hS := hw.2.1
  have hN := hw.2.2.2.1
  obtain ⟨n1, n2⟩ := tf_liftN (q := H.size) (x1 := .inl (cA1, a0)) (locs1 := locs) hw ((hP.kept hk).app (fun k x hx => by
    have hz : k < 1 := (List.getElem?_eq_some_iff.mp hx).1
    rw [show k = 0 by omega] at hx
    cases hx
    show H1[H.size]? = some (vp_cell _ _)
    rw [ha]
    exact e1)) ((tf_ls_D hw.2.2.1 H.size).push hP rfl (hN _ hS.1)) ⟨Nat.le_trans hS.1 (by omega), fun x h1 h2 => (o1 x (Nat.lt_of_lt_of_le h1 hS.1)).trans (hS.2.1 x h1 h2), hS.2.2⟩
  exact kk H.size H1 n1 n2
theorem tf_newi (C : tf_C p s m args c cc nL own S0 D dA) (hw : tf_Wd S0 D A H0 G H locs) {n : Int32} (N' : Nat) (hn : n = nI N') (hN : N' < 1000000) (hcells : cells + 1 ≤ R.cells) (hslots : slots + N' ≤ R.slots) (hdg : decode cc pc = .ok (.newarray .int, 2))
    (kk : ∀ (q : Nat) (H1 : Heap), G q = none → tf_Wd S0 D A H0 (va_up G q (some (.inl (dA 0, N', .inl (fun _ => 0))))) H1 locs → W p l e R s m args below meth c H1 locs (cells + 1) (slots + N') Q (F0 m (pc + 2) ls (.ref q :: rest))) : W p l e R s m args below meth c H locs cells slots Q (F0 m pc ls (.int n :: rest)) :=
  tf_newa C hw 0 (atype := .int) rfl (fun _ h => h) q94 N' (fun _ => rfl) hn hN (by decide) hcells hslots hdg kk
theorem tf_newb (C : tf_C p s m args c cc nL own S0 D dA) (hw : tf_Wd S0 D A H0 G H locs) {n : Int32} (N' : Nat) (hn : n = nI N') (hN : N' < 1000000) (hcells : cells + 1 ≤ R.cells) (hslots : slots + N' ≤ R.slots) (hdg : decode cc pc = .ok (.newarray .byte, 2))
    (kk : ∀ (q : Nat) (H1 : Heap), G q = none → tf_Wd S0 D A H0 (va_up G q (some (.inl (dA 1, N', .inl (fun _ => 0))))) H1 locs → W p l e R s m args below meth c H1 locs (cells + 1) (slots + N') Q (F0 m (pc + 2) ls (.ref q :: rest))) : W p l e R s m args below meth c H locs cells slots Q (F0 m pc ls (.int n :: rest)) :=
  tf_newa C hw 1 (atype := .byte) rfl (fun _ h => h) q659 N' (fun _ => rfl) hn hN (by decide) hcells hslots hdg kk
theorem tf_news (C : tf_C p s m args c cc nL own S0 D dA) (hw : tf_Wd S0 D A H0 G H locs) {n : Int32} (N' : Nat) (hn : n = nI N') (hN : N' < 1000000) (hcells : cells + 1 ≤ R.cells) (hslots : slots + N' ≤ R.slots) (hdg : decode cc pc = .ok (.newarray .short, 2))
    (kk : ∀ (q : Nat) (H1 : Heap), G q = none → tf_Wd S0 D A H0 (va_up G q (some (.inl (dA 2, N', .inl (fun _ => 0))))) H1 locs → W p l e R s m args below meth c H1 locs (cells + 1) (slots + N') Q (F0 m (pc + 2) ls (.ref q :: rest))) : W p l e R s m args below meth c H locs cells slots Q (F0 m pc ls (.int n :: rest)) :=
  tf_newa C hw 2 (atype := .short) rfl (fun _ h => h) q684 N' (fun _ => rfl) hn hN (by decide) hcells hslots hdg kk
theorem tf_newl (C : tf_C p s m args c cc nL own S0 D dA) (hw : tf_Wd S0 D A H0 G H locs) {n : Int32} (N' : Nat) (hn : n = nI N') (hN : N' < 1000000) (hcells : cells + 1 ≤ R.cells) (hslots : slots + N' ≤ R.slots) (hdg : decode cc pc = .ok (.newarray .long, 2))
    (kk : ∀ (q : Nat) (H1 : Heap), G q = none → tf_Wd S0 D A H0 (va_up G q (some (.inl (dA 3, N', .inr (.inl (fun _ => 0)))))) H1 locs → W p l e R s m args below meth c H1 locs (cells + 1) (slots + N') Q (F0 m (pc + 2) ls (.ref q :: rest))) : W p l e R s m args below meth c H locs cells slots Q (F0 m pc ls (.int n :: rest)) :=
  tf_newa C hw 3 (atype := .long) rfl (fun _ h => h) q552 N' (fun _ => rfl) hn hN (by decide) hcells hslots hdg kk
theorem tf_anew (C : tf_C p s m args c cc nL own S0 D dA) (hw : tf_Wd S0 D A H0 G H locs) (t : Nat) {Cn : String} {index : Nat} {cA : ClassId} (ht : (tf_Ty dA)[t]? = some (cA, .object Cn)) (hcl : Cond.classLink own index Cn ∈ lw_all) (hov : Cond.arrayOver (.object Cn) ∈ lw_tbl)
    {n : Int32} (N' : Nat) (hn : n = nI N') (hN : N' < 1000000) (hcells : cells + 1 ≤ R.cells) (hslots : slots + N' ≤ R.slots) (hdg : decode cc pc = .ok (.anewarray index, 3))
    (kk : ∀ (q : Nat) (H1 : Heap), G q = none → tf_Wd S0 D A H0 (va_up G q (some (.inl (cA, N', .inr (.inr (.inr (.inr (fun _ => none)))))))) H1 locs → W p l e R s m args below meth c H1 locs (cells + 1) (slots + N') Q (F0 m (pc + 3) ls (.ref q :: rest))) : W p l e R s m args below meth c H locs cells slots Q (F0 m pc ls (.int n :: rest)) := by
  subst hn
  obtain ⟨b0, h0, -⟩ := C.base.2
  have hov1 : va_AO Cn s := (va_AO.of (h0 _ hov)).moved C.warm.alike
  refine va_newq C.hx C.hb C.hown (C.hts _ hcl) hov1 C.K (tf_ls_P hw.1 H.size) (tf_ls_D hw.2.2.1 H.size) hw.2.1 hw.2.2.2.1 (nI_pos (by omega)) (nI_clamp (by omega)) (by omega) hcells hslots hdg (fun q cA1 H1 hK hP hD hS => ?_)
  have h1 : va_RA s cA1 (.object Cn) := (hK.2 (tf_Ty dA).length (cA1, .object Cn) (by rw [List.getElem?_append_right (Nat.le_refl _), Nat.sub_self]; rfl)).2
  have h2 : va_RA s cA (.object Cn) := (C.K.2 t _ ht).2
  obtain ⟨_, _, -, -, -, h4⟩ := h1
  obtain ⟨_, _, -, -, -, h5⟩ := h2
  have hcA : cA1 = cA := Option.some.inj (h4.symm.trans h5)
  subst hcA
  obtain ⟨n1, n2⟩ := tf_liftN hw hP hD hS
  exact kk q H1 n1 n2
/-- returns -/
theorem tf_end {sz : Nat} {G0 : tf_Pic} (hw : tf_Wd S0 D (tf_A G0 sz) s.heap G H locs) {t : State} (ht : t.heap = H) : tf_En S0 D sz G0 G s t := ⟨by rw [ht]; exact hw.1, hw.2.1.F ht, hw.2.2.1⟩
theorem tf_reti {sz : Nat} {G0 : tf_Pic} {post : Int32 → tf_Pic → Prop} {v : Int32} {mc ms : Nat} (C : tf_C p s m args c cc nL own S0 D dA) (hw : tf_Wd S0 D (tf_A G0 sz) s.heap G H locs) (hr : meth.sig.returnType = some .int) (hlocks : meth.locks = false) (hdg : decode cc pc = .ok (.ireturn, 1)) (h1 : cells ≤ mc) (h2 : slots ≤ ms) (hp : post v G) : W p l e R s m args below meth c H locs cells slots (MQ below (tf_Qi S0 D sz G0 post) args s mc ms (tf_A G0 sz)) (F0 m pc ls [.int v]) :=
  W.widen h1 h2 (W.iret C.hx C.hb hr (fun t ht _ => ⟨v, G, rfl, hp, tf_end hw ht⟩) hw.2.1.2.2 hdg hlocks)
theorem tf_retz {sz : Nat} {G0 : tf_Pic} {post : Int32 → tf_Pic → Prop} {v : Int32} {mc ms : Nat} (C : tf_C p s m args c cc nL own S0 D dA) (hw : tf_Wd S0 D (tf_A G0 sz) s.heap G H locs) (hr : meth.sig.returnType = some .boolean) (hlocks : meth.locks = false) (hdg : decode cc pc = .ok (.ireturn, 1)) (h1 : cells ≤ mc) (h2 : slots ≤ ms) (hv : v = 0 ∨ v = 1) (hp : post v G) : W p l e R s m args below meth c H locs cells slots (MQ below (tf_Qi S0 D sz G0 post) args s mc ms (tf_A G0 sz)) (F0 m pc ls [.int v]) :=
  W.widen h1 h2 (W.zret C.hx C.hb hr (by rcases hv with h | h <;> (subst h; rfl)) (fun t ht _ => ⟨v, G, rfl, hp, tf_end hw ht⟩) hw.2.1.2.2 hdg hlocks)
theorem tf_retl {sz : Nat} {G0 : tf_Pic} {post : Int64 → tf_Pic → Prop} {v : Int64} {mc ms : Nat} (C : tf_C p s m args c cc nL own S0 D dA) (hw : tf_Wd S0 D (tf_A G0 sz) s.heap G H locs) (hr : meth.sig.returnType = some .long) (hlocks : meth.locks = false) (hdg : decode cc pc = .ok (.lreturn, 1)) (h1 : cells ≤ mc) (h2 : slots ≤ ms) (hp : post v G) : W p l e R s m args below meth c H locs cells slots (MQ below (tf_Ql S0 D sz G0 post) args s mc ms (tf_A G0 sz)) (F0 m pc ls [.long v]) :=
  W.widen h1 h2 (W.lret C.hx C.hb hr (fun t ht _ => ⟨v, G, rfl, hp, tf_end hw ht⟩) hw.2.1.2.2 hdg hlocks)
theorem tf_retv {sz : Nat} {G0 : tf_Pic} {post : tf_Pic → Prop} {mc ms : Nat} (C : tf_C p s m args c cc nL own S0 D dA) (hw : tf_Wd S0 D (tf_A G0 sz) s.heap G H locs) (hr : meth.sig.returnType = none) (hlocks : meth.locks = false) (hdg : decode cc pc = .ok (.return_, 1)) (h1 : cells ≤ mc) (h2 : slots ≤ ms) (hp : post G) : W p l e R s m args below meth c H locs cells slots (MQ below (tf_Qv S0 D sz G0 post) args s mc ms (tf_A G0 sz)) (F0 m pc ls []) :=
  W.widen h1 h2 (W.vret C.hx C.hb hr (fun t ht _ => ⟨G, rfl, hp, tf_end hw ht⟩) hw.2.1.2.2 hdg hlocks)
theorem tf_retq {sz : Nat} {G0 : tf_Pic} {post : Option Nat → tf_Pic → Prop} {v : Value} (r : Option Nat) {rt : FieldType} {mc ms : Nat} (C : tf_C p s m args c cc nL own S0 D dA) (hw : tf_Wd S0 D (tf_A G0 sz) s.heap G H locs) (hr : meth.sig.returnType = some rt) (hrt : (∃ n, rt = .object n) ∨ ∃ t, rt = .array t) (hv : v = va_rf r) (hlocks : meth.locks = false) (hdg : decode cc pc = .ok (.areturn, 1)) (h1 : cells ≤ mc) (h2 : slots ≤ ms) (hp : post r G) : W p l e R s m args below meth c H locs cells slots (MQ below (tf_Qq S0 D sz G0 post) args s mc ms (tf_A G0 sz)) (F0 m pc ls [v]) := by
  subst hv
  exact W.widen h1 h2 (W.aret C.hx C.hb hr hrt (va_rf_or r) (fun t ht _ => ⟨r, G, rfl, hp, tf_end hw ht⟩) hw.2.1.2.2 hdg hlocks)
/-- the entry -/
theorem tf_start {n : Nat} (vs : List Value) (hn : (lg_sl vs).length ≤ n) (kk : ∀ ls : Array Slot, lv_has ls n (lv_args 0 vs) → W p l e R s m args below meth c H locs cells slots Q (F0 m 0 ls [])) : W p l e R s m args below meth c H locs cells slots Q (entryFrame m vs.toArray n) := by
  rw [lg_entry_eq]
  exact kk _ (lv_entry vs hn)
theorem tf_enter {y : MethodName} {rm : Room} {maxL sz : Nat} {ret : Option FieldType} {As : List Value} {s₁ : State} (hB : tf_B S0 D dA) (B : BodyLoose p l y (headSpec (ws_ y cc maxL ret) rm) cc maxL ret e s m args below meth c s₁) (hml : c.maxLocals = maxL) (hv : tf_Pc S0 D sz G As args s) : tf_C p s m args c cc maxL y.cls S0 D dA ∧ tf_Wd S0 D (tf_A G sz) s.heap G s.heap [] ∧ meth.sig.returnType = ret ∧ meth.locks = false ∧ meth.name = y.name ∧ args = As.toArray := by
  have hts := atoms_spec (ws := ws_ y cc maxL ret) B.pre
  obtain ⟨ha, hw, hh, hz⟩ := hv
  refine ⟨⟨B.exec, B.bytes, hml, findClass_of_methodNamed B.named, fun w h => hts w (List.mem_cons_of_mem _ h), hw, hB⟩, ⟨hh, va_S.rf, fun a h => Or.inl h, fun q h => Or.inr (hz ▸ h), fun q h => ?_, hh.2⟩, B.returns, B.notSynchronized, (name_of_methodNamed B.named B.method).1, ha⟩
  rcases h with h | h
  · cases hg : G q with
    | none => exact absurd hg h
    | some x => exact (hh.1 q x hg).2
  · rw [← hz] at h
    exact Nat.le_trans hh.2.1 h
end TFR
