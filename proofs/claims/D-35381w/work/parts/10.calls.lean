/-! CALLS, ENDS, BEGINNINGS over the layer -/
set_option maxRecDepth 100000
/-- ends: the heap as it was; a known answer; a known answer and a new heap; no answer; some answer -/
abbrev hp_J (h : hp_H) (r : Value) : Option Value → hp_H → Prop := fun v h' => v = some r ∧ h' = h
abbrev hp_J0 (h : hp_H) : Option Value → hp_H → Prop := fun v h' => v = none ∧ h' = h
abbrev hp_I (r : Value) (P : hp_H → Prop) : Option Value → hp_H → Prop := fun v h' => v = some r ∧ P h'
abbrev hp_V (P : hp_H → Prop) : Option Value → hp_H → Prop := fun v h' => v = none ∧ P h'
abbrev hp_E (P : Value → hp_H → Prop) : Option Value → hp_H → Prop := fun v h' => ∃ r, v = some r ∧ P r h'
section RC
variable {p : Program} {l : Launch} {e : Env} {R : Room} {s : State} {m : MethodId} {args : Array Value} {below : List Frame} {meth : Method} {c : Code} {H : Heap} {locs : List Loc} {cells slots : Nat} {Q : State → Prop}
variable {cc : ByteArray} {nL pc : Nat} {ls : Array Slot} {rest st : List Value} {own : String} {G : hp_G} {B : Nat} {h : hp_H} {L : List (Option Value)}
variable {y x : MethodName} {bytes : ByteArray} {maxL d mc ms n index : Nat} {ret : Option FieldType} {av : List Value} {post : Option Value → hp_H → Prop} {px : String → hp_H → Prop} {b : Nat}
/-- the room that a call asks -/
abbrev hp_ro (R : Room) (cells slots d mc ms maxL : Nat) : Prop := (d + 1 ≤ R.frames ∧ 8 + (maxL + 11) + 4000 * d ≤ R.locals) ∧ cells + mc ≤ R.cells ∧ slots + ms ≤ R.slots
theorem ro_rS (X : CallFix p m c cc nL s args lw_all own) (w : hp_Ws G B h s H locs) (hG : GoodIn lw_all (va_wsS own index y (ws_ y bytes maxL ret))) (hd : y.cls ≠ "java/lang/invoke/MethodHandle" ∧ y.cls ≠ "java/lang/invoke/VarHandle" ∧ (parseMethodDescriptor y.desc).map (fun d => d.parameters.length) = some n) (hM : hp_M l G B y bytes maxL ret d mc ms av h post) (hn : av.length = n) (hst : st = av.reverse ++ rest) (hl : hp_L ls nL L) (hR : hp_ro R cells slots d mc ms maxL) (hroom : (rest.map fun v => v.category).sum ≤ 8) (hdg : decode cc pc = .ok (.invokestatic index, 3)) :
    va_Run p l e R s m args below meth c H locs cells slots mc ms (F0 m pc ls st) rest (hp_Q G B post av.toArray) (fun q => B ≤ q) :=
  va_runS (As := av) (rest := rest) X hM (va_cwS n X.2.2.2.2 hG rfl rfl rfl hd hR.1) ⟨hp_P.blind, fun U hU hW => ⟨rfl, w.at hU hW⟩⟩ rfl hn hl.1 hst (lv_room hroom) hdg hR.2
theorem ro_rV (X : CallFix p m c cc nL s args lw_all own) (w : hp_Ws G B h s H locs) (hG : GoodIn lw_all (wsV own index y.cls y (ws_ y bytes maxL ret))) (hd : y.cls ≠ "java/lang/invoke/MethodHandle" ∧ y.cls ≠ "java/lang/invoke/VarHandle" ∧ (parseMethodDescriptor y.desc).map (fun d => d.parameters.length) = some n) (hr : ∃ cell : Cell, H[b]? = some cell ∧ cell.vm.isStatics = false ∧ s.vm.findClass y.cls = some cell.cls) (hM : hp_M l G B y bytes maxL ret d mc ms (.ref b :: av) h post) (hn : av.length = n) (hst : st = av.reverse ++ .ref b :: rest) (hl : hp_L ls nL L) (hR : hp_ro R cells slots d mc ms maxL) (hroom : (rest.map fun v => v.category).sum ≤ 8) (hdg : decode cc pc = .ok (.invokevirtual index, 3)) :
    va_Run p l e R s m args below meth c H locs cells slots mc ms (F0 m pc ls st) rest (hp_Q G B post (Value.ref b :: av).toArray) (fun q => B ≤ q) :=
  va_runV (C := y.cls) (As := av) (rest := rest) X hM (cwV n X.2.2.2.2 hG rfl rfl rfl ⟨rfl, hd⟩ hR.1) ⟨hp_P.blind, hr, fun U hU hW => ⟨rfl, w.at hU hW⟩⟩ rfl hn hl.1 hst (lv_room hroom) hdg hR.2
theorem ro_rI (X : CallFix p m c cc nL s args lw_all own) (w : hp_Ws G B h s H locs) (hcode : Cond.code y bytes maxL none ∈ lw_all) (hini : Cond.initialized y.cls ∈ lw_all) (hlink : Cond.methodLink own index y ∈ lw_all) (hinst : Cond.instanceMethod y ∈ lw_all) (hy : y.name = "<init>") (hd : y.cls ≠ "java/lang/invoke/MethodHandle" ∧ y.cls ≠ "java/lang/invoke/VarHandle" ∧ (parseMethodDescriptor y.desc).map (fun d => d.parameters.length) = some n) (hM : hp_M l G B y bytes maxL none d mc ms (.ref b :: av) h post) (hn : av.length = n) (hst : st = av.reverse ++ .ref b :: rest) (hl : hp_L ls nL L) (hR : hp_ro R cells slots d mc ms maxL) (hroom : (rest.map fun v => v.category).sum ≤ 8) (hdg : decode cc pc = .ok (.invokespecial index, 3)) :
    va_Run p l e R s m args below meth c H locs cells slots mc ms (F0 m pc ls st) rest (hp_Q G B post (Value.ref b :: av).toArray) (fun q => B ≤ q) :=
  va_runI (As := av) (rest := rest) X hM (cwI n X.2.2.2.2 (lw_meth hcode) rfl rfl rfl (X.2.2.2.2 _ hini) (X.2.2.2.2 _ hlink) (X.2.2.2.2 _ hinst) hy hd hR.1) ⟨hp_P.blind, fun U hU hW => ⟨rfl, w.at hU hW⟩⟩ rfl hn hl.1 hst (lv_room hroom) hdg hR.2
theorem ro_rIN (X : CallFix p m c cc nL s args lw_all own) (w : hp_Ws G B h s H locs) {host : String} (hcode : Cond.code y bytes maxL none ∈ lw_all) (hini : Cond.initialized y.cls ∈ lw_all) (hlink : Cond.methodLinkNest own index y host ∈ lw_tbl) (hinst : Cond.instanceMethod y ∈ lw_all) (hy : y.name = "<init>") (hd : y.cls ≠ "java/lang/invoke/MethodHandle" ∧ y.cls ≠ "java/lang/invoke/VarHandle" ∧ (parseMethodDescriptor y.desc).map (fun d => d.parameters.length) = some n) (hM : hp_M l G B y bytes maxL none d mc ms (.ref b :: av) h post) (hn : av.length = n) (hst : st = av.reverse ++ .ref b :: rest) (hl : hp_L ls nL L) (hR : hp_ro R cells slots d mc ms maxL) (hroom : (rest.map fun v => v.category).sum ≤ 8) (hdg : decode cc pc = .ok (.invokespecial index, 3)) :
    va_Run p l e R s m args below meth c H locs cells slots mc ms (F0 m pc ls st) rest (hp_Q G B post (Value.ref b :: av).toArray) (fun q => B ≤ q) :=
  va_runIN (As := av) (rest := rest) X hM ⟨va_cnB n X.2.2.2.2 (lw_meth hcode) rfl rfl rfl (w.1.2.1 _ hlink rfl) (X.2.2.2.2 _ hini) hd hR.1, hy, X.2.2.2.2 _ hinst⟩ ⟨hp_P.blind, fun U hU hW => ⟨rfl, w.at hU hW⟩⟩ rfl hn hl.1 hst (lv_room hroom) hdg hR.2
/-- an inherited or overriding method: x is named, y runs, C is the receiver's class -/
theorem ro_rU (X : CallFix p m c cc nL s args lw_all own) (w : hp_Ws G B h s H locs) {C owner : String} (cw : ∀ (s : State) (args : Array Value), (∀ w ∈ lw_all, w.before args s = true) → (∀ w ∈ lw_tbl, hp_rd w = true → va_Nw w s) → (d + 1 ≤ R.frames ∧ 8 + (maxL + 11) + 4000 * d ≤ R.locals) → va_CU R s args own C owner index x y bytes maxL ret (ws_ y bytes maxL ret) (hp_rm d mc ms) mc ms n) (hr : ∃ cell : Cell, H[b]? = some cell ∧ cell.vm.isStatics = false ∧ s.vm.findClass C = some cell.cls) (hM : hp_M l G B y bytes maxL ret d mc ms (.ref b :: av) h post) (hn : av.length = n) (hst : st = av.reverse ++ .ref b :: rest) (hl : hp_L ls nL L) (hR : hp_ro R cells slots d mc ms maxL) (hroom : (rest.map fun v => v.category).sum ≤ 8) (hdg : decode cc pc = .ok (.invokevirtual index, 3)) :
    va_Run p l e R s m args below meth c H locs cells slots mc ms (F0 m pc ls st) rest (hp_Q G B post (Value.ref b :: av).toArray) (fun q => B ≤ q) :=
  va_runU (C := C) (owner := owner) (x := x) (As := av) (rest := rest) X hM (cw s args X.2.2.2.2 w.1.2.1 hR.1) ⟨hp_P.blind, hr, fun U hU hW => ⟨rfl, w.at hU hW⟩⟩ rfl hn hl.1 hst (lv_room hroom) hdg hR.2
theorem ro_rSU (X : CallFix p m c cc nL s args lw_all own) (w : hp_Ws G B h s H locs) {C : String} {T : u_T} {N ci t : Nat} {fs : List Value} (hG : GoodIn lw_all (va_wsSU own index y (ws_ y bytes maxL ret))) (hd : y.name ≠ "<init>" ∧ (parseMethodDescriptor y.desc).map (fun d => d.parameters.length) = some n) (hc : hp_cl[ci]? = some (C, T, N)) (ha : h b = some (t, hp_ob ci fs)) (hM : hp_M l G B y bytes maxL ret d mc ms (.ref b :: av) h post) (hn : av.length = n) (hst : st = av.reverse ++ .ref b :: rest) (hl : hp_L ls nL L) (hR : hp_ro R cells slots d mc ms maxL) (hroom : (rest.map fun v => v.category).sum ≤ 8) (hdg : decode cc pc = .ok (.invokespecial index, 3)) :
    va_Run p l e R s m args below meth c H locs cells slots mc ms (F0 m pc ls st) rest (hp_Q G B post (Value.ref b :: av).toArray) (fun q => B ≤ q) :=
  va_runSU (C := C) (As := av) (rest := rest) (w.1.1.1 ci _ hc).2 X hM (va_cwSU n X.2.2.2.2 hG rfl rfl rfl hd hR.1) ⟨hp_P.blind, hp_recv w hc ha, fun U hU hW => ⟨rfl, w.at hU hW⟩⟩ rfl hn hl.1 hst (lv_room hroom) hdg hR.2
theorem ro_rF (X : CallFix p m c cc nL s args lw_all own) (w : hp_Ws G B h s H locs) {C : String} {T : u_T} {N ci t count : Nat} {fs : List Value} (hG : GoodIn lw_all (va_wsF own index C x y (ws_ y bytes maxL ret))) (hF : (C, x, y) ∈ hp_fws) (hd : x.cls ≠ "java/lang/invoke/MethodHandle" ∧ x.cls ≠ "java/lang/invoke/VarHandle" ∧ (parseMethodDescriptor x.desc).map (fun d => d.parameters.length) = some n) (hc : hp_cl[ci]? = some (C, T, N)) (ha : h b = some (t, hp_ob ci fs)) (hM : hp_M l G B y bytes maxL ret d mc ms (.ref b :: av) h post) (hn : av.length = n) (hst : st = av.reverse ++ .ref b :: rest) (hl : hp_L ls nL L) (hR : hp_ro R cells slots d mc ms maxL) (hroom : (rest.map fun v => v.category).sum ≤ 8) (hdg : decode cc pc = .ok (.invokeinterface index count, 5)) :
    va_Run5 p l e R s m args below meth c H locs cells slots mc ms (F0 m pc ls st) rest (hp_Q G B post (Value.ref b :: av).toArray) (fun q => B ≤ q) :=
  va_runF (C := C) (x := x) (As := av) (rest := rest) (w.1.1.1 ci _ hc).2 X hM (va_cwF n X.2.2.2.2 hG rfl rfl rfl (w.1.2.2.1 _ hF) hd hR.1) ⟨hp_P.blind, hp_recv w hc ha, fun U hU hW => ⟨rfl, w.at hU hW⟩⟩ rfl hn hl.1 hst (lv_room hroom) hdg hR.2
/-! calls that may throw -/
theorem ro_xS (X : CallFix p m c cc nL s args lw_all own) (w : hp_Ws G B h s H locs) (hG : GoodIn lw_all (va_wsS own index y (ws_ y bytes maxL ret))) (hd : y.cls ≠ "java/lang/invoke/MethodHandle" ∧ y.cls ≠ "java/lang/invoke/VarHandle" ∧ (parseMethodDescriptor y.desc).map (fun d => d.parameters.length) = some n) (hM : hp_MX l G B y bytes maxL ret d mc ms av h post px) (hn : av.length = n) (hst : st = av.reverse ++ rest) (hl : hp_L ls nL L) (hR : hp_ro R cells slots d mc ms maxL) (hroom : (rest.map fun v => v.category).sum ≤ 8) (hdg : decode cc pc = .ok (.invokestatic index, 3)) :
    vx_Run p l e R s m args below meth c H locs cells slots mc ms (F0 m pc ls st) rest (hp_Q G B post av.toArray) (hp_X G B px) (fun q => B ≤ q) :=
  vx_runS (As := av) (rest := rest) X hM (va_cwS n X.2.2.2.2 hG rfl rfl rfl hd hR.1) ⟨hp_P.blind, fun U hU hW => ⟨rfl, w.at hU hW⟩⟩ rfl hn hl.1 hst (lv_room hroom) hdg hR.2
theorem ro_xSN (X : CallFix p m c cc nL s args lw_all own) (w : hp_Ws G B h s H locs) {host : String} (hcode : Cond.code y bytes maxL ret ∈ lw_all) (hini : Cond.initialized y.cls ∈ lw_all) (hlink : Cond.methodLinkNest own index y host ∈ lw_tbl) (hstat : Cond.static y ∈ lw_all) (hd : y.cls ≠ "java/lang/invoke/MethodHandle" ∧ y.cls ≠ "java/lang/invoke/VarHandle" ∧ (parseMethodDescriptor y.desc).map (fun d => d.parameters.length) = some n) (hM : hp_MX l G B y bytes maxL ret d mc ms av h post px) (hn : av.length = n) (hst : st = av.reverse ++ rest) (hl : hp_L ls nL L) (hR : hp_ro R cells slots d mc ms maxL) (hroom : (rest.map fun v => v.category).sum ≤ 8) (hdg : decode cc pc = .ok (.invokestatic index, 3)) :
    vx_Run p l e R s m args below meth c H locs cells slots mc ms (F0 m pc ls st) rest (hp_Q G B post av.toArray) (hp_X G B px) (fun q => B ≤ q) :=
  vx_runSN (As := av) (rest := rest) X hM ⟨va_cnB n X.2.2.2.2 (lw_meth hcode) rfl rfl rfl (w.1.2.1 _ hlink rfl) (X.2.2.2.2 _ hini) hd hR.1, X.2.2.2.2 _ hstat, trivial⟩ ⟨hp_P.blind, fun U hU hW => ⟨rfl, w.at hU hW⟩⟩ rfl hn hl.1 hst (lv_room hroom) hdg hR.2
theorem ro_xV (X : CallFix p m c cc nL s args lw_all own) (w : hp_Ws G B h s H locs) (hG : GoodIn lw_all (wsV own index y.cls y (ws_ y bytes maxL ret))) (hd : y.cls ≠ "java/lang/invoke/MethodHandle" ∧ y.cls ≠ "java/lang/invoke/VarHandle" ∧ (parseMethodDescriptor y.desc).map (fun d => d.parameters.length) = some n) (hr : ∃ cell : Cell, H[b]? = some cell ∧ cell.vm.isStatics = false ∧ s.vm.findClass y.cls = some cell.cls) (hM : hp_MX l G B y bytes maxL ret d mc ms (.ref b :: av) h post px) (hn : av.length = n) (hst : st = av.reverse ++ .ref b :: rest) (hl : hp_L ls nL L) (hR : hp_ro R cells slots d mc ms maxL) (hroom : (rest.map fun v => v.category).sum ≤ 8) (hdg : decode cc pc = .ok (.invokevirtual index, 3)) :
    vx_Run p l e R s m args below meth c H locs cells slots mc ms (F0 m pc ls st) rest (hp_Q G B post (Value.ref b :: av).toArray) (hp_X G B px) (fun q => B ≤ q) :=
  vx_runV (C := y.cls) (As := av) (rest := rest) X hM (cwV n X.2.2.2.2 hG rfl rfl rfl ⟨rfl, hd⟩ hR.1) ⟨hp_P.blind, hr, fun U hU hW => ⟨rfl, w.at hU hW⟩⟩ rfl hn hl.1 hst (lv_room hroom) hdg hR.2
/-! behind a call -/
theorem ro_kJ {r : Value} {va : Array Value} {st0 : List Value} (hr : va_Run p l e R s m args below meth c H locs cells slots mc ms (F0 m pc ls st0) rest (hp_Q G B (hp_J h r) va) (fun q => B ≤ q)) (w : hp_Ws G B h s H locs) (kk : ∀ (H1 : Heap) (locs1 : List Loc), hp_Ws G B h s H1 locs1 → W p l e R s m args below meth c H1 locs1 (cells + mc) (slots + ms) Q (F0 m (pc + 3) ls (r :: rest))) : W p l e R s m args below meth c H locs cells slots Q (F0 m pc ls st0) := by
  refine ro_kk hr w (fun v h' H1 locs1 hp w1 => ?_)
  obtain ⟨rfl, rfl⟩ := hp
  exact kk H1 locs1 w1
theorem ro_kJ0 {va : Array Value} {st0 : List Value} (hr : va_Run p l e R s m args below meth c H locs cells slots mc ms (F0 m pc ls st0) rest (hp_Q G B (hp_J0 h) va) (fun q => B ≤ q)) (w : hp_Ws G B h s H locs) (kk : ∀ (H1 : Heap) (locs1 : List Loc), hp_Ws G B h s H1 locs1 → W p l e R s m args below meth c H1 locs1 (cells + mc) (slots + ms) Q (F0 m (pc + 3) ls rest)) : W p l e R s m args below meth c H locs cells slots Q (F0 m pc ls st0) := by
  refine ro_kk hr w (fun v h' H1 locs1 hp w1 => ?_)
  obtain ⟨rfl, rfl⟩ := hp
  exact kk H1 locs1 w1
theorem ro_kI {r : Value} {P : hp_H → Prop} {va : Array Value} {st0 : List Value} (hr : va_Run p l e R s m args below meth c H locs cells slots mc ms (F0 m pc ls st0) rest (hp_Q G B (hp_I r P) va) (fun q => B ≤ q)) (w : hp_Ws G B h s H locs) (kk : ∀ (h' : hp_H) (H1 : Heap) (locs1 : List Loc), P h' → hp_Ws G B h' s H1 locs1 → W p l e R s m args below meth c H1 locs1 (cells + mc) (slots + ms) Q (F0 m (pc + 3) ls (r :: rest))) : W p l e R s m args below meth c H locs cells slots Q (F0 m pc ls st0) := by
  refine ro_kk hr w (fun v h' H1 locs1 hp w1 => ?_)
  obtain ⟨rfl, hp⟩ := hp
  exact kk h' H1 locs1 hp w1
theorem ro_kV {P : hp_H → Prop} {va : Array Value} {st0 : List Value} (hr : va_Run p l e R s m args below meth c H locs cells slots mc ms (F0 m pc ls st0) rest (hp_Q G B (hp_V P) va) (fun q => B ≤ q)) (w : hp_Ws G B h s H locs) (kk : ∀ (h' : hp_H) (H1 : Heap) (locs1 : List Loc), P h' → hp_Ws G B h' s H1 locs1 → W p l e R s m args below meth c H1 locs1 (cells + mc) (slots + ms) Q (F0 m (pc + 3) ls rest)) : W p l e R s m args below meth c H locs cells slots Q (F0 m pc ls st0) := by
  refine ro_kk hr w (fun v h' H1 locs1 hp w1 => ?_)
  obtain ⟨rfl, hp⟩ := hp
  exact kk h' H1 locs1 hp w1
theorem ro_kE {P : Value → hp_H → Prop} {va : Array Value} {st0 : List Value} (hr : va_Run p l e R s m args below meth c H locs cells slots mc ms (F0 m pc ls st0) rest (hp_Q G B (hp_E P) va) (fun q => B ≤ q)) (w : hp_Ws G B h s H locs) (kk : ∀ (r : Value) (h' : hp_H) (H1 : Heap) (locs1 : List Loc), P r h' → hp_Ws G B h' s H1 locs1 → W p l e R s m args below meth c H1 locs1 (cells + mc) (slots + ms) Q (F0 m (pc + 3) ls (r :: rest))) : W p l e R s m args below meth c H locs cells slots Q (F0 m pc ls st0) := by
  refine ro_kk hr w (fun v h' H1 locs1 hp w1 => ?_)
  obtain ⟨r, rfl, hp⟩ := hp
  exact kk r h' H1 locs1 hp w1
theorem ro_k5J {r : Value} {va : Array Value} {st0 : List Value} (hr : va_Run5 p l e R s m args below meth c H locs cells slots mc ms (F0 m pc ls st0) rest (hp_Q G B (hp_J h r) va) (fun q => B ≤ q)) (w : hp_Ws G B h s H locs) (kk : ∀ (H1 : Heap) (locs1 : List Loc), hp_Ws G B h s H1 locs1 → W p l e R s m args below meth c H1 locs1 (cells + mc) (slots + ms) Q (F0 m (pc + 5) ls (r :: rest))) : W p l e R s m args below meth c H locs cells slots Q (F0 m pc ls st0) := by
  refine ro_kk5 hr w (fun v h' H1 locs1 hp w1 => ?_)
  obtain ⟨rfl, rfl⟩ := hp
  exact kk H1 locs1 w1
theorem ro_k5I {r : Value} {P : hp_H → Prop} {va : Array Value} {st0 : List Value} (hr : va_Run5 p l e R s m args below meth c H locs cells slots mc ms (F0 m pc ls st0) rest (hp_Q G B (hp_I r P) va) (fun q => B ≤ q)) (w : hp_Ws G B h s H locs) (kk : ∀ (h' : hp_H) (H1 : Heap) (locs1 : List Loc), P h' → hp_Ws G B h' s H1 locs1 → W p l e R s m args below meth c H1 locs1 (cells + mc) (slots + ms) Q (F0 m (pc + 5) ls (r :: rest))) : W p l e R s m args below meth c H locs cells slots Q (F0 m pc ls st0) := by
  refine ro_kk5 hr w (fun v h' H1 locs1 hp w1 => ?_)
  obtain ⟨rfl, hp⟩ := hp
  exact kk h' H1 locs1 hp w1
theorem ro_k5E {P : Value → hp_H → Prop} {va : Array Value} {st0 : List Value} (hr : va_Run5 p l e R s m args below meth c H locs cells slots mc ms (F0 m pc ls st0) rest (hp_Q G B (hp_E P) va) (fun q => B ≤ q)) (w : hp_Ws G B h s H locs) (kk : ∀ (r : Value) (h' : hp_H) (H1 : Heap) (locs1 : List Loc), P r h' → hp_Ws G B h' s H1 locs1 → W p l e R s m args below meth c H1 locs1 (cells + mc) (slots + ms) Q (F0 m (pc + 5) ls (r :: rest))) : W p l e R s m args below meth c H locs cells slots Q (F0 m pc ls st0) := by
  refine ro_kk5 hr w (fun v h' H1 locs1 hp w1 => ?_)
  obtain ⟨r, rfl, hp⟩ := hp
  exact kk r h' H1 locs1 hp w1
/-! ends -/
theorem ro_ret0 (X : CallFix p m c cc nL s args lw_all own) (w : hp_Ws G B h s H locs) (hQ : ∀ t, MQ below (hp_Q G B post) args s mc ms (fun q => B ≤ q) t → Q t) (hlk : meth.locks = false) (hdg : decode cc pc = .ok (.return_, 1)) (hr : meth.sig.returnType = none) (hc : cells ≤ mc) (hs : slots ≤ ms) (hp : post none h) : W p l e R s m args below meth c H locs cells slots Q (F0 m pc ls []) := by
  intro T hT Y
  obtain ⟨t, a, b⟩ := (W.widen hc hs (W.vret X.1 X.2.1 hr (fun t ht hW => ⟨⟨none, h, rfl, hp, by rw [ht]; exact w.2.2.2.2⟩, va_S.F w.2.2.2.1 ht⟩) w.2.2.2.1.2.2 hdg hlk) : W p l e R s m args below meth c H locs cells slots (MQ below (hp_Q G B post) args s mc ms (fun q => B ≤ q)) (F0 m pc ls [])) T hT Y
  exact ⟨t, a, hQ t b⟩
theorem ro_retI (X : CallFix p m c cc nL s args lw_all own) (w : hp_Ws G B h s H locs) (hQ : ∀ t, MQ below (hp_Q G B post) args s mc ms (fun q => B ≤ q) t → Q t) (hlk : meth.locks = false) {ty : FieldType} {v : Int32} (hdg : decode cc pc = .ok (.ireturn, 1)) (hr : meth.sig.returnType = some ty) (hn : narrow ty (.int v) = .int v) (hc : cells ≤ mc) (hs : slots ≤ ms) (hp : post (some (.int v)) h) : W p l e R s m args below meth c H locs cells slots Q (F0 m pc ls [.int v]) := by
  intro T hT Y
  obtain ⟨t, a, b⟩ := (W.widen hc hs (W.zret X.1 X.2.1 hr hn (fun t ht hW => ⟨⟨_, h, rfl, hp, by rw [ht]; exact w.2.2.2.2⟩, va_S.F w.2.2.2.1 ht⟩) w.2.2.2.1.2.2 hdg hlk) : W p l e R s m args below meth c H locs cells slots (MQ below (hp_Q G B post) args s mc ms (fun q => B ≤ q)) (F0 m pc ls [.int v])) T hT Y
  exact ⟨t, a, hQ t b⟩
theorem ro_retA (X : CallFix p m c cc nL s args lw_all own) (w : hp_Ws G B h s H locs) (hQ : ∀ t, MQ below (hp_Q G B post) args s mc ms (fun q => B ≤ q) t → Q t) (hlk : meth.locks = false) {rt : FieldType} {v : Value} (hdg : decode cc pc = .ok (.areturn, 1)) (hr : meth.sig.returnType = some rt) (hrt : (∃ n, rt = .object n) ∨ ∃ t, rt = .array t) (hv : v = .null ∨ ∃ a, v = .ref a) (hc : cells ≤ mc) (hs : slots ≤ ms) (hp : post (some v) h) : W p l e R s m args below meth c H locs cells slots Q (F0 m pc ls [v]) := by
  intro T hT Y
  obtain ⟨t, a, b⟩ := (W.widen hc hs (W.aret X.1 X.2.1 hr hrt hv (fun t ht hW => ⟨⟨_, h, rfl, hp, by rw [ht]; exact w.2.2.2.2⟩, va_S.F w.2.2.2.1 ht⟩) w.2.2.2.1.2.2 hdg hlk) : W p l e R s m args below meth c H locs cells slots (MQ below (hp_Q G B post) args s mc ms (fun q => B ≤ q)) (F0 m pc ls [v])) T hT Y
  exact ⟨t, a, hQ t b⟩
/-- what a body that may throw has at hand for a throw that goes on -/
abbrev hp_T (p : Program) (l : Launch) (e : Env) (R : Room) (s : State) (m : MethodId) (args : Array Value) (below : List Frame) (meth : Method) (c : Code) (Q : State → Prop) (G : hp_G) (B mc ms : Nat) (px : String → hp_H → Prop) : Prop :=
  ∀ (H : Heap) (locs : List Loc) (cells slots : Nat) (h' : hp_H) (E : String) (ce : Cell) (q : Addr) (pc : Nat) (ls : Array Slot) (rest : List Value), cells ≤ mc → slots ≤ ms → px E h' → hp_Ws G B h' s H locs → H[q]? = some ce → ce.vm = .none → s.vm.findClass E = some ce.cls → vx_W p l e R s m args below meth c H locs cells slots Q (F0 m pc ls rest) q
theorem ro_kkT {mc ms mc' ms' : Nat} {st0 : List Value} {px' : String → hp_H → Prop} {va : Array Value} (hr : vx_Run p l e R s m args below meth c H locs cells slots mc ms (F0 m pc ls st0) rest (hp_Q G B post va) (hp_X G B px) (fun q => B ≤ q)) (w : hp_Ws G B h s H locs) (hT : hp_T p l e R s m args below meth c Q G B mc' ms' px') (hc : cells + mc ≤ mc' ∧ slots + ms ≤ ms') (hx : ∀ (E : String) (h' : hp_H), px E h' → px' E h')
    (kk : ∀ (v : Option Value) (h' : hp_H) (H1 : Heap) (locs1 : List Loc), post v h' → hp_Ws G B h' s H1 locs1 → W p l e R s m args below meth c H1 locs1 (cells + mc) (slots + ms) Q (F0 m (pc + 3) ls (v.toList ++ rest))) : W p l e R s m args below meth c H locs cells slots Q (F0 m pc ls st0) :=
  ro_kkH hr w (fun E ce q9 h' H1 locs1 hp w1 hq hv hcl => hT H1 locs1 _ _ h' E ce q9 pc ls rest hc.1 hc.2 (hx E h' hp) w1 hq hv hcl) kk
end RC
/-! beginnings -/
theorem hp_M.of {l : Launch} {G : hp_G} {B : Nat} {y : MethodName} {cc : ByteArray} {nL : Nat} {ret : Option FieldType} {d mc ms : Nat} {av : List Value} {h : hp_H} {post : Option Value → hp_H → Prop} (hy : plainName y.cls = true) (pad : Nat) (hcat : ∀ v ∈ av, v.category = 1) (hlen : (lg_sl av).length ≤ nL)
    (body : ∀ (p : Program) (e : Env) (s : State) (m : MethodId) (below : List Frame) (meth : Method) (c : Code) (Q : State → Prop) (ls : Array Slot), CallFix p m c cc nL s av.toArray lw_all y.cls → meth.sig.returnType = ret → meth.locks = false → meth.name = y.name → hp_Ws G B h s s.heap [] → hp_L ls nL (av.map some ++ List.replicate pad none) → (∀ t, MQ below (hp_Q G B post) av.toArray s mc ms (fun q => B ≤ q) t → Q t) →
      W p l e (hp_rm d mc ms) s m av.toArray below meth c s.heap [] 0 0 Q (F0 m 0 ls [])) : hp_M l G B y cc nL ret d mc ms av h post := by
  refine Met.ofW (cc := cc) (maxL := nL) (ret := ret) hy rfl ?_
  intro p e s m args below meth c s₁ Bd hml hv
  obtain ⟨rfl, hw⟩ := hv
  have hts := atoms_spec (ws := ws_ y cc nL ret) Bd.pre
  have hts : ∀ w ∈ lw_all, w.before _ s = true := fun w h => hts w (List.mem_cons_of_mem _ h)
  have hl := hp_L.entry av nL pad hcat hlen
  rw [lg_entry_eq]
  generalize (lg_sl av ++ List.replicate (nL - (lg_sl av).length) Slot.unset).toArray = ls at hl ⊢
  exact body p e s m below meth c _ ls ⟨Bd.exec, Bd.bytes, hml, findClass_of_methodNamed Bd.named, hts⟩ Bd.returns Bd.notSynchronized (name_of_methodNamed Bd.named Bd.method).1 hw.start hl (fun t h => h)
theorem hp_MX.of {l : Launch} {G : hp_G} {B : Nat} {y : MethodName} {cc : ByteArray} {nL : Nat} {ret : Option FieldType} {d mc ms : Nat} {av : List Value} {h : hp_H} {post : Option Value → hp_H → Prop} {px : String → hp_H → Prop} (hy : plainName y.cls = true) (pad : Nat) (hcat : ∀ v ∈ av, v.category = 1) (hlen : (lg_sl av).length ≤ nL)
    (body : ∀ (p : Program) (e : Env) (s : State) (m : MethodId) (below : List Frame) (meth : Method) (c : Code) (Q : State → Prop) (ls : Array Slot), CallFix p m c cc nL s av.toArray lw_all y.cls → meth.sig.returnType = ret → meth.locks = false → meth.name = y.name → hp_Ws G B h s s.heap [] → hp_L ls nL (av.map some ++ List.replicate pad none) → (∀ t, MQ below (hp_Q G B post) av.toArray s mc ms (fun q => B ≤ q) t → Q t) →
      hp_T p l e (hp_rm d mc ms) s m av.toArray below meth c Q G B mc ms px → (∀ x ∈ c.exceptionTable.toList, False) → (∀ t, vx_MQ below (hp_Q G B post) (hp_X G B px) av.toArray s mc ms (fun q => B ≤ q) t → Q t) →
      W p l e (hp_rm d mc ms) s m av.toArray below meth c s.heap [] 0 0 Q (F0 m 0 ls [])) : hp_MX l G B y cc nL ret d mc ms av h post px := by
  refine vx_ofW (cc := cc) (maxL := nL) (ret := ret) hy rfl ?_
  intro p e s m args below meth c s₁ Bd hml htab hv
  obtain ⟨rfl, hw⟩ := hv
  have hts := atoms_spec (ws := ws_ y cc nL ret) Bd.pre
  have hts : ∀ w ∈ lw_all, w.before _ s = true := fun w h => hts w (List.mem_cons_of_mem _ h)
  have hl := hp_L.entry av nL pad hcat hlen
  rw [lg_entry_eq]
  generalize (lg_sl av ++ List.replicate (nL - (lg_sl av).length) Slot.unset).toArray = ls at hl ⊢
  refine body p e s m below meth c _ ls ⟨Bd.exec, Bd.bytes, hml, findClass_of_methodNamed Bd.named, hts⟩ Bd.returns Bd.notSynchronized (name_of_methodNamed Bd.named Bd.method).1 hw.start hl (fun t ht => ?_) ?_ htab (fun t h => h)
  · obtain ⟨o, h1, h2, h3, h4⟩ := ht
    exact ⟨o, h1, h2, Or.inl ⟨h3, h4⟩⟩
  · intro H locs cells slots h' E ce q pc ls rest hc hs hp w1 hq hv hcl
    exact vx_out (fun x hx => absurd (htab x hx) id) Bd.notSynchronized hq hv hcl (fun t ht hA => ⟨⟨h', hp, by rw [ht]; exact w1.2.2.2.2⟩, va_S.F w1.2.2.2.1 ht⟩) w1.2.2.2.1.2.2 hc hs
