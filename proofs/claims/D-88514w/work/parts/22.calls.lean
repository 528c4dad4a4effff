/-! CALLS OVER THE PICTURE -/
set_option maxRecDepth 100000
section TFC
variable {p : Program} {l : Launch} {e : Env} {R : Room} {s : State} {m : MethodId} {args : Array Value} {below : List Frame} {meth : Method} {c : Code} {H : Heap} {locs : List Loc} {cells slots : Nat} {Q : State → Prop}
variable {cc : ByteArray} {pc nL : Nat} {ls : Array Slot} {rest st0 : List Value} {own : String} {S0 : State} {D : va_G} {dA : Nat → ClassId} {A : Nat → Prop} {H0 : Heap} {G : tf_Pic} {b : Nat}
variable {y : MethodName} {bytes : ByteArray} {maxL mc ms n index : Nat} {ret : Option FieldType} {rm : Room} {Qc : Array Value → State → Outcome → State → Prop} {As : List Value} {lv : List (Nat × Value)} {ar : Array Value}
theorem tf_preV (C : tf_C p s m args c cc nL own S0 D dA) (hw : tf_Wd S0 D A H0 G H locs) {ci : Nat} {fs : List Value} (he : G b = some (.inr (ci, fs))) {Cn : String} {T : u_T} {N : Nat} (hc : tf_Cl[ci]? = some (Cn, T, N)) (As : List Value) : PreV s H Cn b (tf_Pc S0 D H.size G (.ref b :: As)) As :=
  ⟨tf_Pc_blind, va_recv (q0 := 0) C.K (tf_one hw.1 he) hc rfl, fun U hU hW => ⟨rfl, State.WarmedH.trans C.warm hW, by rw [hU]; exact hw.1, by rw [hU]⟩⟩
theorem tf_preS (C : tf_C p s m args c cc nL own S0 D dA) (hw : tf_Wd S0 D A H0 G H locs) (As : List Value) : PreS s H (tf_Pc S0 D H.size G As) As :=
  ⟨tf_Pc_blind, fun U hU hW => ⟨rfl, State.WarmedH.trans C.warm hW, by rw [hU]; exact hw.1, by rw [hU]⟩⟩
/-- the callee's numbers fit the caller's -/
def tf_fit (R rm : Room) (maxL mc ms cells slots : Nat) : Prop := rm.cells = mc ∧ rm.slots = ms ∧ rm.frames + 1 ≤ R.frames ∧ 8 + (maxL + 11) + rm.locals ≤ R.locals ∧ cells + mc ≤ R.cells ∧ slots + ms ≤ R.slots
def tf_nm (y : MethodName) (n : Nat) : Prop := y.cls ≠ "java/lang/invoke/MethodHandle" ∧ y.cls ≠ "java/lang/invoke/VarHandle" ∧ (parseMethodDescriptor y.desc).map (fun d => d.parameters.length) = some n
theorem tf_V (C : tf_C p s m args c cc nL own S0 D dA) (hw : tf_Wd S0 D A H0 G H locs) {ci : Nat} {fs : List Value} (he : G b = some (.inr (ci, fs))) {Cn : String} {T : u_T} {N : Nat} (hc : tf_Cl[ci]? = some (Cn, T, N)) (As : List Value) (hM : Met l y (ws_ y bytes maxL ret) rm (tf_Pc S0 D H.size G (.ref b :: As)) Qc mc ms (tf_A G H.size)) (hT : GoodIn lw_all (wsV own index Cn y (ws_ y bytes maxL ret))) (hy : y.cls = Cn) (hd : tf_nm y n)
    (hR : tf_fit R rm maxL mc ms cells slots) (hn : As.length = n) (hl : lv_has ls nL lv) (hst : st0 = As.reverse ++ .ref b :: rest) (hcat : (rest.map fun v => v.category).sum ≤ 8) (hdg : decode cc pc = .ok (.invokevirtual index, 3)) :
    va_Run p l e R s m args below meth c H locs cells slots mc ms (F0 m pc ls st0) rest (Qc (Value.ref b :: As).toArray) (tf_A G H.size) :=
  va_runV C.fix hM (cwV n C.hts hT rfl hR.1 hR.2.1 ⟨hy, hd⟩ ⟨hR.2.2.1, hR.2.2.2.1⟩) (tf_preV C hw he hc As) rfl hn hl.1 hst (lv_room (pc := pc) (ls := ls) (rest := st0) hcat) hdg hR.2.2.2.2
theorem tf_S (C : tf_C p s m args c cc nL own S0 D dA) (hw : tf_Wd S0 D A H0 G H locs) (As : List Value) (hM : Met l y (ws_ y bytes maxL ret) rm (tf_Pc S0 D H.size G As) Qc mc ms (tf_A G H.size)) (hT : GoodIn lw_all (va_wsS own index y (ws_ y bytes maxL ret))) (hd : tf_nm y n)
    (hR : tf_fit R rm maxL mc ms cells slots) (hn : As.length = n) (hl : lv_has ls nL lv) (hst : st0 = As.reverse ++ rest) (hcat : (rest.map fun v => v.category).sum ≤ 8) (hdg : decode cc pc = .ok (.invokestatic index, 3)) :
    va_Run p l e R s m args below meth c H locs cells slots mc ms (F0 m pc ls st0) rest (Qc As.toArray) (tf_A G H.size) :=
  va_runS C.fix hM (va_cwS n C.hts hT rfl hR.1 hR.2.1 hd ⟨hR.2.2.1, hR.2.2.2.1⟩) (tf_preS C hw As) rfl hn hl.1 hst (lv_room (pc := pc) (ls := ls) (rest := st0) hcat) hdg hR.2.2.2.2
theorem tf_I (C : tf_C p s m args c cc nL own S0 D dA) (hw : tf_Wd S0 D A H0 G H locs) (As : List Value) (hM : Met l y (ws_ y bytes maxL none) rm (tf_Pc S0 D H.size G (.ref b :: As)) Qc mc ms (tf_A G H.size)) (hcode : Cond.code y bytes maxL none ∈ lw_all) (hini : Cond.initialized y.cls ∈ lw_all) (hlk : Cond.methodLink own index y ∈ lw_all) (hin : Cond.instanceMethod y ∈ lw_all) (hy1 : y.name = "<init>") (hd : tf_nm y n)
    (hR : tf_fit R rm maxL mc ms cells slots) (hn : As.length = n) (hl : lv_has ls nL lv) (hst : st0 = As.reverse ++ .ref b :: rest) (hcat : (rest.map fun v => v.category).sum ≤ 8) (hdg : decode cc pc = .ok (.invokespecial index, 3)) :
    va_Run p l e R s m args below meth c H locs cells slots mc ms (F0 m pc ls st0) rest (Qc (Value.ref b :: As).toArray) (tf_A G H.size) :=
  va_runI C.fix hM (cwI n C.hts (lw_meth hcode) rfl hR.1 hR.2.1 (C.hts _ hini) (C.hts _ hlk) (C.hts _ hin) hy1 hd ⟨hR.2.2.1, hR.2.2.2.1⟩) (tf_preS C hw (.ref b :: As)) rfl hn hl.1 hst (lv_room (pc := pc) (ls := ls) (rest := st0) hcat) hdg hR.2.2.2.2
/-- a nest mate's private constructor -/
theorem tf_IN (C : tf_C p s m args c cc nL own S0 D dA) (hw : tf_Wd S0 D A H0 G H locs) (As : List Value) (hM : Met l y (ws_ y bytes maxL none) rm (tf_Pc S0 D H.size G (.ref b :: As)) Qc mc ms (tf_A G H.size)) (hcode : Cond.code y bytes maxL none ∈ lw_all) (hini : Cond.initialized y.cls ∈ lw_all) {host : String} (hlk : Cond.methodLinkNest own index y host ∈ lw_tbl) (hin : Cond.instanceMethod y ∈ lw_all) (hy1 : y.name = "<init>") (hd : tf_nm y n)
    (hR : tf_fit R rm maxL mc ms cells slots) (hn : As.length = n) (hl : lv_has ls nL lv) (hst : st0 = As.reverse ++ .ref b :: rest) (hcat : (rest.map fun v => v.category).sum ≤ 8) (hdg : decode cc pc = .ok (.invokespecial index, 3)) :
    va_Run p l e R s m args below meth c H locs cells slots mc ms (F0 m pc ls st0) rest (Qc (Value.ref b :: As).toArray) (tf_A G H.size) := by
  obtain ⟨b0, h0, -⟩ := C.base.2
  exact va_runIN C.fix hM ⟨va_cnB n C.hts (lw_meth hcode) rfl hR.1 hR.2.1 (va_Nw.warmM C.warm (va_Nw.of rfl (h0 _ hlk))) (C.hts _ hini) hd ⟨hR.2.2.1, hR.2.2.2.1⟩, hy1, C.hts _ hin⟩ (tf_preS C hw (.ref b :: As)) rfl hn hl.1 hst (lv_room (pc := pc) (ls := ls) (rest := st0) hcat) hdg hR.2.2.2.2
/-- a method named through a class, run by another: the receiver's class selects it -/
theorem tf_U {x : MethodName} {owner : String} (C : tf_C p s m args c cc nL own S0 D dA) (hw : tf_Wd S0 D A H0 G H locs) {ci : Nat} {fs : List Value} (he : G b = some (.inr (ci, fs))) {Cn : String} {T : u_T} {N : Nat} (hc : tf_Cl[ci]? = some (Cn, T, N)) (As : List Value) (hM : Met l y (ws_ y bytes maxL ret) rm (tf_Pc S0 D H.size G (.ref b :: As)) Qc mc ms (tf_A G H.size))
    (hT : GoodIn lw_all (va_wsO own index Cn owner x y (ws_ y bytes maxL ret))) {b0 : ByteArray} {m0 : Nat} {r0 : Option FieldType} (h0 : Cond.code ⟨owner, x.name, x.desc⟩ b0 m0 r0 ∈ lw_all) (hd : owner ≠ "java/lang/invoke/MethodHandle" ∧ owner ≠ "java/lang/invoke/VarHandle" ∧ (parseMethodDescriptor x.desc).map (fun d => d.parameters.length) = some n)
    (hR : tf_fit R rm maxL mc ms cells slots) (hn : As.length = n) (hl : lv_has ls nL lv) (hst : st0 = As.reverse ++ .ref b :: rest) (hcat : (rest.map fun v => v.category).sum ≤ 8) (hdg : decode cc pc = .ok (.invokevirtual index, 3)) :
    va_Run p l e R s m args below meth c H locs cells slots mc ms (F0 m pc ls st0) rest (Qc (Value.ref b :: As).toArray) (tf_A G H.size) :=
  va_runU C.fix hM (va_cwO n C.hts hT rfl hR.1 hR.2.1 h0 hd ⟨hR.2.2.1, hR.2.2.2.1⟩) (tf_preV C hw he hc As) rfl hn hl.1 hst (lv_room (pc := pc) (ls := ls) (rest := st0) hcat) hdg hR.2.2.2.2
/-- super.m(..) -/
theorem tf_SU (C : tf_C p s m args c cc nL own S0 D dA) (hw : tf_Wd S0 D A H0 G H locs) {ci : Nat} {fs : List Value} (he : G b = some (.inr (ci, fs))) {Cn : String} {T : u_T} {N : Nat} (hc : tf_Cl[ci]? = some (Cn, T, N)) (As : List Value) (hM : Met l y (ws_ y bytes maxL ret) rm (tf_Pc S0 D H.size G (.ref b :: As)) Qc mc ms (tf_A G H.size)) (hT : GoodIn lw_all (va_wsSU own index y (ws_ y bytes maxL ret))) (hd : y.name ≠ "<init>" ∧ (parseMethodDescriptor y.desc).map (fun d => d.parameters.length) = some n)
    (hR : tf_fit R rm maxL mc ms cells slots) (hn : As.length = n) (hl : lv_has ls nL lv) (hst : st0 = As.reverse ++ .ref b :: rest) (hcat : (rest.map fun v => v.category).sum ≤ 8) (hdg : decode cc pc = .ok (.invokespecial index, 3)) :
    va_Run p l e R s m args below meth c H locs cells slots mc ms (F0 m pc ls st0) rest (Qc (Value.ref b :: As).toArray) (tf_A G H.size) :=
  va_runSU (C.K.1 ci _ hc).2 C.fix hM (va_cwSU n C.hts hT rfl hR.1 hR.2.1 hd ⟨hR.2.2.1, hR.2.2.2.1⟩) (tf_preV C hw he hc As) rfl hn hl.1 hst (lv_room (pc := pc) (ls := ls) (rest := st0) hcat) hdg hR.2.2.2.2
/-- the world behind a call -/
theorem tf_behind {G1 : tf_Pic} {st t T' : State} {L : List Loc} (hw : tf_Wd S0 D A H0 G H locs) (h0 : st.heap = H) (hE : tf_En S0 D H.size G G1 st t) (e1 : T'.heap = t.heap) (hL : ∀ q ∈ L, tf_A G H.size q.base) : tf_Wd S0 D A H0 G1 T'.heap (locs ++ L) := by
  obtain ⟨hh, hS, hA, hN, hZ, hO⟩ := hw
  obtain ⟨h1, ⟨h2, h3⟩, h4⟩ := hE
  rw [h0] at h2 h3
  have hin : ∀ q, tf_A G H.size q → A q := fun q h => h.elim (hA q) (fun h => hN q (Nat.le_trans hS.1 h))
  refine ⟨by rw [e1]; exact h1, ⟨by rw [e1]; exact Nat.le_trans hS.1 h2, fun q a1 a2 => ?_, fun q hq => (List.mem_append.mp hq).elim (hS.2.2 q) (fun h => hin _ (hL q h))⟩, fun a h => hin a (h4 a h), hN, hZ, hO⟩
  rw [e1, h3 q (Nat.lt_of_lt_of_le a1 hS.1) (fun z => a2 (hin q z))]
  exact hS.2.1 q a1 a2
/-- going on behind a call -/
theorem tf_goi {post : Int32 → tf_Pic → Prop} (hr : va_Run p l e R s m args below meth c H locs cells slots mc ms (F0 m pc ls st0) rest (tf_Qi S0 D H.size G post ar) (tf_A G H.size)) (hw : tf_Wd S0 D A H0 G H locs)
    (kk : ∀ (r : Int32) (G1 : tf_Pic) (H1 : Heap) (locs1 : List Loc), post r G1 → tf_Wd S0 D A H0 G1 H1 locs1 → W p l e R s m args below meth c H1 locs1 (cells + mc) (slots + ms) Q (F0 m (pc + 3) ls (.int r :: rest))) : W p l e R s m args below meth c H locs cells slots Q (F0 m pc ls st0) := by
  intro T hT X
  obtain ⟨v, st₀, t, T', L, h0, X', hL, e1, -, ⟨r, G1, hv, hp, hw1⟩, st⟩ := hr T hT X
  cases hv
  obtain ⟨t2, a1, b1⟩ := kk r G1 T'.heap (locs ++ L) hp (tf_behind hw h0 hw1 e1 hL) T' rfl X'
  exact ⟨t2, st t2 a1, b1⟩
theorem tf_gol {post : Int64 → tf_Pic → Prop} (hr : va_Run p l e R s m args below meth c H locs cells slots mc ms (F0 m pc ls st0) rest (tf_Ql S0 D H.size G post ar) (tf_A G H.size)) (hw : tf_Wd S0 D A H0 G H locs)
    (kk : ∀ (r : Int64) (G1 : tf_Pic) (H1 : Heap) (locs1 : List Loc), post r G1 → tf_Wd S0 D A H0 G1 H1 locs1 → W p l e R s m args below meth c H1 locs1 (cells + mc) (slots + ms) Q (F0 m (pc + 3) ls (.long r :: rest))) : W p l e R s m args below meth c H locs cells slots Q (F0 m pc ls st0) := by
  intro T hT X
  obtain ⟨v, st₀, t, T', L, h0, X', hL, e1, -, ⟨r, G1, hv, hp, hw1⟩, st⟩ := hr T hT X
  cases hv
  obtain ⟨t2, a1, b1⟩ := kk r G1 T'.heap (locs ++ L) hp (tf_behind hw h0 hw1 e1 hL) T' rfl X'
  exact ⟨t2, st t2 a1, b1⟩
theorem tf_gov {post : tf_Pic → Prop} (hr : va_Run p l e R s m args below meth c H locs cells slots mc ms (F0 m pc ls st0) rest (tf_Qv S0 D H.size G post ar) (tf_A G H.size)) (hw : tf_Wd S0 D A H0 G H locs)
    (kk : ∀ (G1 : tf_Pic) (H1 : Heap) (locs1 : List Loc), post G1 → tf_Wd S0 D A H0 G1 H1 locs1 → W p l e R s m args below meth c H1 locs1 (cells + mc) (slots + ms) Q (F0 m (pc + 3) ls rest)) : W p l e R s m args below meth c H locs cells slots Q (F0 m pc ls st0) := by
  intro T hT X
  obtain ⟨v, st₀, t, T', L, h0, X', hL, e1, -, ⟨G1, hv, hp, hw1⟩, st⟩ := hr T hT X
  cases hv
  obtain ⟨t2, a1, b1⟩ := kk G1 T'.heap (locs ++ L) hp (tf_behind hw h0 hw1 e1 hL) T' rfl X'
  exact ⟨t2, st t2 a1, b1⟩
theorem tf_goq {post : Option Nat → tf_Pic → Prop} (hr : va_Run p l e R s m args below meth c H locs cells slots mc ms (F0 m pc ls st0) rest (tf_Qq S0 D H.size G post ar) (tf_A G H.size)) (hw : tf_Wd S0 D A H0 G H locs)
    (kk : ∀ (r : Option Nat) (G1 : tf_Pic) (H1 : Heap) (locs1 : List Loc), post r G1 → tf_Wd S0 D A H0 G1 H1 locs1 → W p l e R s m args below meth c H1 locs1 (cells + mc) (slots + ms) Q (F0 m (pc + 3) ls (va_rf r :: rest))) : W p l e R s m args below meth c H locs cells slots Q (F0 m pc ls st0) := by
  intro T hT X
  obtain ⟨v, st₀, t, T', L, h0, X', hL, e1, -, ⟨r, G1, hv, hp, hw1⟩, st⟩ := hr T hT X
  cases hv
  obtain ⟨t2, a1, b1⟩ := kk r G1 T'.heap (locs ++ L) hp (tf_behind hw h0 hw1 e1 hL) T' rfl X'
  exact ⟨t2, st t2 a1, b1⟩
end TFC
