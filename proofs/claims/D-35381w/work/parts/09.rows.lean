/-! ROWS over the layer: one instruction, one row -/
set_option maxRecDepth 100000
theorem hp_P1 {G : hp_G} {a : Nat} {e : va_E} {H : Heap} (h : hp_at G a (Sum.inl e) H) : va_P G.1 hp_cl [(a, e)] H := by
  intro k q hk
  match k, hk with
  | 0, hk => cases hk; exact h
  | k + 1, hk => simp at hk
/-- the locals, by their places -/
def hp_L (ls : Array Slot) (nL : Nat) (L : List (Option Value)) : Prop := ls.size = nL ∧ lv_wf ls ∧ ∀ (i : Nat) (v : Value), L[i]? = some (some v) → ls[i]? = some (.val v) ∧ v.category = 1
theorem hp_L.at {ls : Array Slot} {nL : Nat} {L : List (Option Value)} (h : hp_L ls nL L) {i : Nat} {v : Value} (hv : L[i]? = some (some v)) : ls[i]? = some (.val v) := (h.2.2 i v hv).1
theorem hp_L.sub {ls : Array Slot} {nL : Nat} {L L' : List (Option Value)} (h : hp_L ls nL L) (hs : ∀ (i : Nat) (v : Value), L'[i]? = some (some v) → L[i]? = some (some v)) : hp_L ls nL L' := ⟨h.1, h.2.1, fun i v hv => h.2.2 i v (hs i v hv)⟩
/-- the places kept, by a mask -/
def hp_mk : List Bool → List (Option Value) → List (Option Value)
  | true :: b, x :: L => x :: hp_mk b L
  | false :: b, _ :: L => none :: hp_mk b L
  | _, _ => []
theorem hp_mk_sub : ∀ (b : List Bool) (L : List (Option Value)) (i : Nat) (v : Value), (hp_mk b L)[i]? = some (some v) → L[i]? = some (some v)
  | true :: b, x :: L, 0, v, h => h
  | true :: b, x :: L, i + 1, v, h => hp_mk_sub b L i v h
  | false :: b, x :: L, 0, v, h => by simp [hp_mk] at h
  | false :: b, x :: L, i + 1, v, h => hp_mk_sub b L i v h
  | [], L, i, v, h => by simp [hp_mk] at h
  | true :: b, [], i, v, h => by simp [hp_mk] at h
  | false :: b, [], i, v, h => by simp [hp_mk] at h
theorem hp_L.mask {ls : Array Slot} {nL : Nat} {L : List (Option Value)} (h : hp_L ls nL L) (b : List Bool) : hp_L ls nL (hp_mk b L) := h.sub (hp_mk_sub b L)
theorem hp_args : ∀ (vs : List Value) (k : Nat), (∀ v ∈ vs, v.category = 1) → ∀ (i : Nat) (v : Value), vs[i]? = some v → (k + i, v) ∈ lv_args k vs
  | [], k, hc, i, v, h => by simp at h
  | x :: vs, k, hc, 0, v, h => by
    cases h
    exact List.mem_cons_self
  | x :: vs, k, hc, i + 1, v, h => by
    have hx : ¬ x.category = 2 := by rw [hc x List.mem_cons_self]; decide
    rw [lv_args, if_neg hx, show k + (i + 1) = (k + 1) + i by omega]
    exact List.mem_cons_of_mem _ (hp_args vs (k + 1) (fun v hv => hc v (List.mem_cons_of_mem _ hv)) i v h)
theorem hp_L.entry (vs : List Value) (n pad : Nat) (hc : ∀ v ∈ vs, v.category = 1) (h : (lg_sl vs).length ≤ n) : hp_L ((lg_sl vs ++ List.replicate (n - (lg_sl vs).length) Slot.unset).toArray) n (vs.map some ++ List.replicate pad none) := by
  obtain ⟨h1, h2, h3⟩ := lv_entry vs h
  refine ⟨h1, h2, fun i v hv => ?_⟩
  have hi : vs[i]? = some v := by
    by_cases hl : i < (vs.map some).length
    · rw [List.getElem?_append_left hl, List.getElem?_map] at hv
      cases hx : vs[i]? with
      | none => rw [hx] at hv; simp at hv
      | some x => rw [hx] at hv; simp at hv; rw [hv]
    · rw [List.getElem?_append_right (by omega), List.getElem?_replicate] at hv
      split at hv <;> simp at hv
  have hm := hp_args vs 0 hc i v hi
  rw [Nat.zero_add] at hm
  exact ⟨h3 (i, v) hm, hc v (List.mem_of_getElem? hi)⟩
def hp_as (L : List (Option Value)) : List (Nat × Value) := (List.range L.length).filterMap (fun j => match L[j]? with
  | some (some v) => some (j, v)
  | _ => none)
theorem hp_as_in {L : List (Option Value)} {j : Nat} {v : Value} (h : L[j]? = some (some v)) : (j, v) ∈ hp_as L := by
  refine List.mem_filterMap.mpr ⟨j, List.mem_range.mpr (List.getElem?_eq_some_iff.mp h).1, ?_⟩
  rw [h]
theorem hp_as_of {L : List (Option Value)} {q : Nat × Value} (h : q ∈ hp_as L) : L[q.1]? = some (some q.2) := by
  obtain ⟨j, -, hj⟩ := List.mem_filterMap.mp h
  cases hx : L[j]? with
  | none => rw [hx] at hj; cases hj
  | some x =>
    cases x with
    | none => rw [hx] at hj; cases hj
    | some w =>
      rw [hx] at hj
      cases hj
      exact hx
theorem hp_L.has {ls : Array Slot} {nL : Nat} {L : List (Option Value)} (h : hp_L ls nL L) : lv_has ls nL (hp_as L) := ⟨h.1, h.2.1, fun q hq => h.at (hp_as_of hq)⟩
theorem hp_L.set {ls ls' : Array Slot} {nL i : Nat} {L : List (Option Value)} {v : Value} (h : hp_L ls nL L) (hc : v.category = 1) (h' : lv_has ls' nL ((i, v) :: (hp_as L).filter (fun q => !(q.1 == i) && !(q.1 + 1 == i && q.2.category == 2)))) : hp_L ls' nL (L.set i (some v)) := by
  refine ⟨h'.1, h'.2.1, fun j w hw => ?_⟩
  by_cases hj : j = i
  · subst hj
    have hl : j < (L.set j (some v)).length := (List.getElem?_eq_some_iff.mp hw).1
    rw [List.length_set] at hl
    rw [List.getElem?_set_self hl] at hw
    cases hw
    exact ⟨h'.2.2 (j, v) List.mem_cons_self, hc⟩
  · rw [List.getElem?_set_ne (Ne.symm hj)] at hw
    have hcw := (h.2.2 j w hw).2
    refine ⟨h'.2.2 (j, w) (List.mem_cons_of_mem _ (List.mem_filter.mpr ⟨hp_as_in hw, ?_⟩)), hcw⟩
    simp [hj, hcw]
theorem hp_same {s : State} {args : Array Value} {ref o n d : String} (hts : ∀ w ∈ lw_all, w.before args s = true) (h : o = ref ∨ Cond.sameField ref o n d ∈ lw_all) : ∀ x, s.fieldFound? o n d = some x → s.fieldFound? ref n d = some x := by
  rcases h with h | h
  · rw [h]; exact fun x e => e
  · exact fun x e => u_same (hts _ h) x e
theorem hp_rfv (v : Value) (h : v = .null ∨ ∃ a, v = .ref a) : ∃ r, v = va_rf r := by
  rcases h with rfl | ⟨a, rfl⟩
  · exact ⟨none, rfl⟩
  · exact ⟨some a, rfl⟩
theorem hp_rf1 (r : Option Nat) : (va_rf r).category = 1 := by cases r <;> rfl
section RO
variable {p : Program} {l : Launch} {e : Env} {R : Room} {s : State} {m : MethodId} {args : Array Value} {below : List Frame} {meth : Method} {c : Code} {H : Heap} {locs : List Loc} {cells slots : Nat} {Q : State → Prop}
variable {cc : ByteArray} {nL pc : Nat} {ls : Array Slot} {rest : List Value} {own : String} {G : hp_G} {B : Nat} {h : hp_H} {L : List (Option Value)}
/-! ===== locals ===== -/
theorem ro_iload_n (X : CallFix p m c cc nL s args lw_all own) (hl : hp_L ls nL L) {k : Fin 4} {x : Int32} (hdg : decode cc pc = .ok (.iload_n k, 1)) (hv : L[(k : Nat)]? = some (some (.int x))) (kk : W p l e R s m args below meth c H locs cells slots Q (F0 m (pc + 1) ls (.int x :: rest))) : W p l e R s m args below meth c H locs cells slots Q (F0 m pc ls rest) := lv_iload_n X.1 X.2.1 hdg rfl (hl.at hv) kk
theorem ro_iload (X : CallFix p m c cc nL s args lw_all own) (hl : hp_L ls nL L) {k : Nat} {x : Int32} (hdg : decode cc pc = .ok (.iload k, 2)) (hv : L[k]? = some (some (.int x))) (kk : W p l e R s m args below meth c H locs cells slots Q (F0 m (pc + 2) ls (.int x :: rest))) : W p l e R s m args below meth c H locs cells slots Q (F0 m pc ls rest) := lv_iload X.1 X.2.1 hdg (hl.at hv) kk
theorem ro_aload_n (X : CallFix p m c cc nL s args lw_all own) (hl : hp_L ls nL L) {k : Fin 4} {v : Value} (hdg : decode cc pc = .ok (.aload_n k, 1)) (hv : L[(k : Nat)]? = some (some v)) (hr : v = .null ∨ ∃ a, v = .ref a) (kk : W p l e R s m args below meth c H locs cells slots Q (F0 m (pc + 1) ls (v :: rest))) : W p l e R s m args below meth c H locs cells slots Q (F0 m pc ls rest) := by
  rcases hr with rfl | ⟨a, rfl⟩
  · exact lv_aload_nN X.1 X.2.1 hdg rfl (hl.at hv) kk
  · exact lv_aload_n X.1 X.2.1 hdg rfl (hl.at hv) kk
theorem ro_aload (X : CallFix p m c cc nL s args lw_all own) (hl : hp_L ls nL L) {k : Nat} {v : Value} (hdg : decode cc pc = .ok (.aload k, 2)) (hv : L[k]? = some (some v)) (hr : v = .null ∨ ∃ a, v = .ref a) (kk : W p l e R s m args below meth c H locs cells slots Q (F0 m (pc + 2) ls (v :: rest))) : W p l e R s m args below meth c H locs cells slots Q (F0 m pc ls rest) := by
  rcases hr with rfl | ⟨a, rfl⟩
  · exact lv_aloadN X.1 X.2.1 hdg (hl.at hv) kk
  · exact lv_aload X.1 X.2.1 hdg (hl.at hv) kk
theorem ro_istore_n (X : CallFix p m c cc nL s args lw_all own) (hl : hp_L ls nL L) {k : Fin 4} {x : Int32} (hdg : decode cc pc = .ok (.istore_n k, 1)) (hn : (k : Nat) < nL) (kk : ∀ ls' : Array Slot, hp_L ls' nL (L.set k (some (.int x))) → W p l e R s m args below meth c H locs cells slots Q (F0 m (pc + 1) ls' rest)) : W p l e R s m args below meth c H locs cells slots Q (F0 m pc ls (.int x :: rest)) := lv_istore_n X.1 X.2.1 hdg rfl hl.has hn rfl (fun ls' h' => kk ls' (hl.set rfl h'))
theorem ro_istore (X : CallFix p m c cc nL s args lw_all own) (hl : hp_L ls nL L) {k : Nat} {x : Int32} (hdg : decode cc pc = .ok (.istore k, 2)) (hn : k < nL) (kk : ∀ ls' : Array Slot, hp_L ls' nL (L.set k (some (.int x))) → W p l e R s m args below meth c H locs cells slots Q (F0 m (pc + 2) ls' rest)) : W p l e R s m args below meth c H locs cells slots Q (F0 m pc ls (.int x :: rest)) := lv_istore X.1 X.2.1 hdg hl.has hn rfl (fun ls' h' => kk ls' (hl.set rfl h'))
theorem ro_astore_n (X : CallFix p m c cc nL s args lw_all own) (hl : hp_L ls nL L) {k : Fin 4} {v : Value} (hdg : decode cc pc = .ok (.astore_n k, 1)) (hn : (k : Nat) < nL) (hr : v = .null ∨ ∃ a, v = .ref a) (kk : ∀ ls' : Array Slot, hp_L ls' nL (L.set k (some v)) → W p l e R s m args below meth c H locs cells slots Q (F0 m (pc + 1) ls' rest)) : W p l e R s m args below meth c H locs cells slots Q (F0 m pc ls (v :: rest)) := by
  rcases hr with rfl | ⟨a, rfl⟩
  · exact lv_astore_nN X.1 X.2.1 hdg rfl hl.has hn rfl (fun ls' h' => kk ls' (hl.set rfl h'))
  · exact lv_astore_n X.1 X.2.1 hdg rfl hl.has hn rfl (fun ls' h' => kk ls' (hl.set rfl h'))
theorem ro_astore (X : CallFix p m c cc nL s args lw_all own) (hl : hp_L ls nL L) {k : Nat} {v : Value} (hdg : decode cc pc = .ok (.astore k, 2)) (hn : k < nL) (hr : v = .null ∨ ∃ a, v = .ref a) (kk : ∀ ls' : Array Slot, hp_L ls' nL (L.set k (some v)) → W p l e R s m args below meth c H locs cells slots Q (F0 m (pc + 2) ls' rest)) : W p l e R s m args below meth c H locs cells slots Q (F0 m pc ls (v :: rest)) := by
  rcases hr with rfl | ⟨a, rfl⟩
  · exact lv_astoreN X.1 X.2.1 hdg hl.has hn rfl (fun ls' h' => kk ls' (hl.set rfl h'))
  · exact lv_astore X.1 X.2.1 hdg hl.has hn rfl (fun ls' h' => kk ls' (hl.set rfl h'))
theorem ro_iinc (X : CallFix p m c cc nL s args lw_all own) (hl : hp_L ls nL L) {k : Nat} {n : Int} {x : Int32} (hdg : decode cc pc = .ok (.iinc k n, 3)) (hn : k < nL) (hv : L[k]? = some (some (.int x))) (kk : ∀ ls' : Array Slot, hp_L ls' nL (L.set k (some (.int (x + Int32.ofInt n)))) → W p l e R s m args below meth c H locs cells slots Q (F0 m (pc + 3) ls' rest)) : W p l e R s m args below meth c H locs cells slots Q (F0 m pc ls rest) := by
  obtain ⟨j, hj⟩ := List.getElem?_of_mem (hp_as_in hv)
  exact lv_iinc X.1 X.2.1 hdg hl.has hj rfl hn rfl (fun ls' h' => kk ls' (hl.set rfl h'))
/-! ===== fields ===== -/
theorem ro_get (X : CallFix p m c cc nL s args lw_all own) (w : hp_Ws G B h s H locs) {ref C : String} {T : u_T} {N ci index : Nat} (hc : hp_cl[ci]? = some (C, T, N)) (hin : ∀ w ∈ u_ws C T N, w ∈ lw_all) (k : Nat) (hk : k < N) (hlink : Cond.fieldLink own index ref (T k).2.1 (T k).2.2.1 ∈ lw_all) (hsame : (T k).1 = ref ∨ Cond.sameField ref (T k).1 (T k).2.1 (T k).2.2.1 ∈ lw_all) (hdg : decode cc pc = .ok (.getfield index, 3)) {a t : Nat} {fs : List Value} {v : Value} (ha : h a = some (t, hp_ob ci fs)) (hv : fs[k]? = some v)
    (kk : W p l e R s m args below meth c H locs cells slots Q (F0 m (pc + 3) ls (v :: rest))) : W p l e R s m args below meth c H locs cells slots Q (F0 m pc ls (.ref a :: rest)) :=
  va_get X.1 X.2.1 X.2.2.2.2 hin X.2.2.2.1 w.1.1 (hp_P1 (w.2.2.2.2 a t _ ha).2.2) 0 rfl hc k hk (X.2.2.2.2 _ hlink) (hp_same X.2.2.2.2 hsame) hv hdg kk
/-- a constant object's field -/
theorem ro_getc (X : CallFix p m c cc nL s args lw_all own) (w : hp_Ws G B h s H locs) {ref C : String} {T : u_T} {N ci index : Nat} (hc : hp_cl[ci]? = some (C, T, N)) (hin : ∀ w ∈ u_ws C T N, w ∈ lw_all) (k : Nat) (hk : k < N) (hlink : Cond.fieldLink own index ref (T k).2.1 (T k).2.2.1 ∈ lw_all) (hsame : (T k).1 = ref ∨ Cond.sameField ref (T k).1 (T k).2.1 (T k).2.2.1 ∈ lw_all) (hdg : decode cc pc = .ok (.getfield index, 3)) {a t : Nat} {fs : List Value} {v : Value} (ha : h a = some (t, hp_co ci fs)) (hv : fs[k]? = some v)
    (kk : W p l e R s m args below meth c H locs cells slots Q (F0 m (pc + 3) ls (v :: rest))) : W p l e R s m args below meth c H locs cells slots Q (F0 m pc ls (.ref a :: rest)) := by
  obtain ⟨cell, r, q1, q2, q2', q3, q4, q5⟩ := (w.2.2.2.2 a t _ ha).2.2
  have hr : r = (C, T, N) := Option.some.inj (q4.symm.trans hc)
  subst hr
  obtain ⟨hS, hfc, kC, hkC, hkind⟩ := w.1.1.1 ci _ hc
  obtain ⟨cf, kf, fi, f, hi, hsl⟩ := hS k hk
  refine W.getf X.1 X.2.1 X.2.2.2.1 (X.2.2.2.2 _ hlink) (hp_same X.2.2.2.2 hsame _ hi) (u_facts hfc hkC (u_lays X.2.2.2.2 hin hk) hi).1 q1 q2' (v := v) ?_ rfl rfl hdg kk
  rw [hsl, q5 k hk]
  simp [vp_V, hv]
theorem ro_getN (X : CallFix p m c cc nL s args lw_all own) (w : hp_Ws G B h s H locs) {ref C host : String} {T : u_T} {N ci index : Nat} (hc : hp_cl[ci]? = some (C, T, N)) (hin : ∀ w ∈ u_ws C T N, w ∈ lw_all) (k : Nat) (hk : k < N) (hlink : Cond.fieldLinkNest own index ref (T k).2.1 (T k).2.2.1 host ∈ lw_tbl) (hsame : (T k).1 = ref ∨ Cond.sameField ref (T k).1 (T k).2.1 (T k).2.2.1 ∈ lw_all) (hdg : decode cc pc = .ok (.getfield index, 3)) {a t : Nat} {fs : List Value} {v : Value} (ha : h a = some (t, hp_ob ci fs)) (hv : fs[k]? = some v)
    (kk : W p l e R s m args below meth c H locs cells slots Q (F0 m (pc + 3) ls (v :: rest))) : W p l e R s m args below meth c H locs cells slots Q (F0 m pc ls (.ref a :: rest)) :=
  va_getN X.1 X.2.1 X.2.2.2.2 hin X.2.2.2.1 w.1.1 (hp_P1 (w.2.2.2.2 a t _ ha).2.2) 0 rfl hc k hk (va_Nw.use rfl (w.1.2.1 _ hlink rfl)) (hp_same X.2.2.2.2 hsame) hv hdg kk
theorem hp_Ws.put {s : State} {H H1 : Heap} {locs : List Loc} {a t k : Nat} {x x' : hp_C} (w : hp_Ws G B h s H locs) (ha : h a = some (t, x)) (ht : t ≠ 0) (he : hp_at G a x' H1) (z : H1.size = H.size) (oq : ∀ q : Nat, q ≠ a → H1[q]? = H[q]?) : hp_Ws G B (hp_up h a (t, x')) s H1 (locs ++ [⟨a, k⟩]) :=
  ⟨w.1, w.2.1, w.2.2.1, w.2.2.2.1.put z oq ((w.2.2.2.2 a t x ha).2.1 ht), w.2.2.2.2.up ha he oq⟩
theorem ro_put (X : CallFix p m c cc nL s args lw_all own) (w : hp_Ws G B h s H locs) {ref C : String} {T : u_T} {N ci index : Nat} (hc : hp_cl[ci]? = some (C, T, N)) (hin : ∀ w ∈ u_ws C T N, w ∈ lw_all) (ty0 : Nat → FieldType) (hty : ∀ k, k < N → parseFieldDescriptor (T k).2.2.1 = some (ty0 k)) (hnm : ∀ a, a < N → ∀ b, b < N → a ≠ b → (T a).2.1 ≠ (T b).2.1) (k : Nat) (hk : k < N) (hlink : Cond.fieldLink own index ref (T k).2.1 (T k).2.2.1 ∈ lw_all) (hsame : (T k).1 = ref ∨ Cond.sameField ref (T k).1 (T k).2.1 (T k).2.2.1 ∈ lw_all) (hfin : (T k).2.2.2 = false) (hdg : decode cc pc = .ok (.putfield index, 3)) {a t : Nat} {fs : List Value} {v : Value} (hn : narrow (ty0 k) v = v) (hfit : fits (ty0 k) v = true) (ha : h a = some (t, hp_ob ci fs)) (ht : t ≠ 0) (hl : k < fs.length)
    (kk : ∀ (H1 : Heap) (locs1 : List Loc), hp_Ws G B (hp_up h a (t, hp_ob ci (fs.set k v))) s H1 locs1 → W p l e R s m args below meth c H1 locs1 cells slots Q (F0 m (pc + 3) ls rest)) : W p l e R s m args below meth c H locs cells slots Q (F0 m pc ls (v :: .ref a :: rest)) := by
  have hap := va_apart (own := own) X.2.2.2.2 hin ty0 hty hnm w.1.1 hc
  obtain ⟨r, h1, cell, q1, q2, q3, q4⟩ := (w.2.2.2.2 a t _ ha).2.2
  have hr : r = (C, T, N) := Option.some.inj (h1.symm.trans hc)
  subst hr
  obtain ⟨hS, hfc, kC, hkC, hkind⟩ := w.1.1.1 ci _ hc
  obtain ⟨cf, kf, fi, f, hi, hsl⟩ := hS k hk
  have hlay := X.2.2.2.2 _ (hin _ (u_in_lay hk))
  unfold u_lay at hlay
  rw [if_neg (by rw [hfin]; decide)] at hlay
  have hst := (u_facts hfc hkC (u_lays X.2.2.2.2 hin hk) hi).1
  have h6 := u_store hfc hkC hkind hlay hi (hty k hk) hn hfit
  refine W.putK X.1 X.2.1 (f := f) ⟨X.2.2.2.1, X.2.2.2.2 _ hlink, ⟨_, _, _, hp_same X.2.2.2.2 hsame _ hi⟩, hst⟩ (by rw [q2]; exact h6) q1 q3 (by rw [hsl]; exact k2_hasslot (q4 k hk)) rfl rfl hdg fun H' e1 e2 e3 => ?_
  rw [hsl] at e1 ⊢
  exact kk H' _ (w.put ha ht ⟨_, hc, t_OB.to (V := updV (vp_V fs) k v) ⟨_, e1, q2, q3, t_set q4 hap hk v⟩ (fun j _ => vp_updV_set hl v j)⟩ e2 e3)
theorem ro_putN (X : CallFix p m c cc nL s args lw_all own) (w : hp_Ws G B h s H locs) {ref C host : String} {T : u_T} {N ci index : Nat} (hc : hp_cl[ci]? = some (C, T, N)) (hin : ∀ w ∈ u_ws C T N, w ∈ lw_all) (ty0 : Nat → FieldType) (hty : ∀ k, k < N → parseFieldDescriptor (T k).2.2.1 = some (ty0 k)) (hnm : ∀ a, a < N → ∀ b, b < N → a ≠ b → (T a).2.1 ≠ (T b).2.1) (k : Nat) (hk : k < N) (hlink : Cond.fieldLinkNest own index ref (T k).2.1 (T k).2.2.1 host ∈ lw_tbl) (hsame : (T k).1 = ref ∨ Cond.sameField ref (T k).1 (T k).2.1 (T k).2.2.1 ∈ lw_all) (hfin : (T k).2.2.2 = false) (hdg : decode cc pc = .ok (.putfield index, 3)) {a t : Nat} {fs : List Value} {v : Value} (hn : narrow (ty0 k) v = v) (hfit : fits (ty0 k) v = true) (ha : h a = some (t, hp_ob ci fs)) (ht : t ≠ 0) (hl : k < fs.length)
    (kk : ∀ (H1 : Heap) (locs1 : List Loc), hp_Ws G B (hp_up h a (t, hp_ob ci (fs.set k v))) s H1 locs1 → W p l e R s m args below meth c H1 locs1 cells slots Q (F0 m (pc + 3) ls rest)) : W p l e R s m args below meth c H locs cells slots Q (F0 m pc ls (v :: .ref a :: rest)) := by
  have hap := va_apart (own := own) X.2.2.2.2 hin ty0 hty hnm w.1.1 hc
  obtain ⟨r, h1, cell, q1, q2, q3, q4⟩ := (w.2.2.2.2 a t _ ha).2.2
  have hr : r = (C, T, N) := Option.some.inj (h1.symm.trans hc)
  subst hr
  obtain ⟨hS, hfc, kC, hkC, hkind⟩ := w.1.1.1 ci _ hc
  obtain ⟨cf, kf, fi, f, hi, hsl⟩ := hS k hk
  have hlay := X.2.2.2.2 _ (hin _ (u_in_lay hk))
  unfold u_lay at hlay
  rw [if_neg (by rw [hfin]; decide)] at hlay
  have hst := (u_facts hfc hkC (u_lays X.2.2.2.2 hin hk) hi).1
  have h6 := u_store hfc hkC hkind hlay hi (hty k hk) hn hfit
  refine va_WputK X.1 X.2.1 (f := f) X.2.2.2.1 (va_Nw.use rfl (w.1.2.1 _ hlink rfl)) (hp_same X.2.2.2.2 hsame _ hi) hst (by rw [q2]; exact h6) q1 q3 (by rw [hsl]; exact k2_hasslot (q4 k hk)) rfl rfl hdg fun H' e1 e2 e3 => ?_
  rw [hsl] at e1 ⊢
  exact kk H' _ (w.put ha ht ⟨_, hc, t_OB.to (V := updV (vp_V fs) k v) ⟨_, e1, q2, q3, t_set q4 hap hk v⟩ (fun j _ => vp_updV_set hl v j)⟩ e2 e3)
theorem ro_putF (X : CallFix p m c cc nL s args lw_all own) (w : hp_Ws G B h s H locs) {ref C : String} {T : u_T} {N ci index : Nat} (hc : hp_cl[ci]? = some (C, T, N)) (hin : ∀ w ∈ u_ws C T N, w ∈ lw_all) (ty0 : Nat → FieldType) (hty : ∀ k, k < N → parseFieldDescriptor (T k).2.2.1 = some (ty0 k)) (hnm : ∀ a, a < N → ∀ b, b < N → a ≠ b → (T a).2.1 ≠ (T b).2.1) (k : Nat) (hk : k < N) (hlink : Cond.fieldLink own index ref (T k).2.1 (T k).2.2.1 ∈ lw_all) (hsame : (T k).1 = ref ∨ Cond.sameField ref (T k).1 (T k).2.1 (T k).2.2.1 ∈ lw_all) (hfin : (T k).2.2.2 = true) (hdecl : (T k).1 = own) (hdg : decode cc pc = .ok (.putfield index, 3)) (hin2 : meth.name = "<init>") {a t : Nat} {fs : List Value} {v : Value} (hn : narrow (ty0 k) v = v) (hfit : fits (ty0 k) v = true) (ha : h a = some (t, hp_ob ci fs)) (ht : t ≠ 0) (hl : k < fs.length)
    (kk : ∀ (H1 : Heap) (locs1 : List Loc), hp_Ws G B (hp_up h a (t, hp_ob ci (fs.set k v))) s H1 locs1 → W p l e R s m args below meth c H1 locs1 cells slots Q (F0 m (pc + 3) ls rest)) : W p l e R s m args below meth c H locs cells slots Q (F0 m pc ls (v :: .ref a :: rest)) := by
  have hap := va_apart (own := own) X.2.2.2.2 hin ty0 hty hnm w.1.1 hc
  obtain ⟨r, h1, cell, q1, q2, q3, q4⟩ := (w.2.2.2.2 a t _ ha).2.2
  have hr : r = (C, T, N) := Option.some.inj (h1.symm.trans hc)
  subst hr
  obtain ⟨hS, hfc, kC, hkC, hkind⟩ := w.1.1.1 ci _ hc
  obtain ⟨cf, kf, fi, f, hi, hsl⟩ := hS k hk
  have hlay := X.2.2.2.2 _ (hin _ (u_in_lay hk))
  unfold u_lay at hlay
  rw [if_pos hfin] at hlay
  have hst := (u_facts hfc hkC (u_lays X.2.2.2.2 hin hk) hi).1
  have hcf : m.cls = cf := by
    obtain ⟨_, _, c', _, _, _, -, -, hf', -, -, -, hown2, -⟩ := Cond.laysFinal_spec hlay
    have e1 : c' = cf := by have := hi.symm.trans hf'; simp at this; exact this.1.symm
    rw [hdecl] at hown2
    rw [← e1]; exact Option.some.inj (X.2.2.2.1.symm.trans hown2)
  have h6 := u_fits hfc hkC hkind (Or.inr hlay) hi (hty k hk) hn hfit
  refine W.putFinK X.1 X.2.1 X.2.2.2.1 (X.2.2.2.2 _ hlink) (hp_same X.2.2.2.2 hsame _ hi) hst hcf hin2 (by rw [q2]; exact h6) q1 q3 (by rw [hsl]; exact k2_hasslot (q4 k hk)) rfl rfl hdg fun H' e1 e2 e3 => ?_
  rw [hsl] at e1 ⊢
  exact kk H' _ (w.put ha ht ⟨_, hc, t_OB.to (V := updV (vp_V fs) k v) ⟨_, e1, q2, q3, t_set q4 hap hk v⟩ (fun j _ => vp_updV_set hl v j)⟩ e2 e3)
/-- a static -/
theorem ro_gets (X : CallFix p m c cc nL s args lw_all own) (w : hp_Ws G B h s H locs) {C n d ref : String} {v : Value} {index : Nat} (hz : (C, n, d, v) ∈ hp_sts G) (hlink : Cond.fieldLink own index ref n d ∈ lw_all) (hsame : C = ref ∨ Cond.sameField ref C n d ∈ lw_all) (hdg : decode cc pc = .ok (.getstatic index, 3))
    (kk : W p l e R s m args below meth c H locs cells slots Q (F0 m (pc + 3) ls (v :: rest))) : W p l e R s m args below meth c H locs cells slots Q (F0 m pc ls rest) :=
  va_gets X.1 X.2.1 (w.2.1.1 _ hz) w.2.2.2.1 X.2.2.2.1 (X.2.2.2.2 _ hlink) (hp_same X.2.2.2.2 hsame) hdg kk
/-! ===== arrays ===== -/
theorem ro_iald (X : CallFix p m c cc nL s args lw_all own) (w : hp_Ws G B h s H locs) (hdg : decode cc pc = .ok (.iaload, 1)) {a t n : Nat} {f : Nat → Int32} {i : Int32} (ha : h a = some (t, hp_ai G n f)) (hi : vp_in i n)
    (kk : W p l e R s m args below meth c H locs cells slots Q (F0 m (pc + 1) ls (.int (f i.toNatClampNeg) :: rest))) : W p l e R s m args below meth c H locs cells slots Q (F0 m pc ls (.int i :: .ref a :: rest)) :=
  va_iald X.1 X.2.1 w.1.1 (hp_P1 (w.2.2.2.2 a t _ ha).2.2) 0 0 rfl rfl hi hdg kk
theorem ro_bald (X : CallFix p m c cc nL s args lw_all own) (w : hp_Ws G B h s H locs) (hdg : decode cc pc = .ok (.baload, 1)) {a t n : Nat} {f : Nat → Int32} {i : Int32} (ha : h a = some (t, hp_ab G n f)) (hi : vp_in i n)
    (kk : W p l e R s m args below meth c H locs cells slots Q (F0 m (pc + 1) ls (.int (f i.toNatClampNeg) :: rest))) : W p l e R s m args below meth c H locs cells slots Q (F0 m pc ls (.int i :: .ref a :: rest)) :=
  va_bald X.1 X.2.1 w.1.1 (hp_P1 (w.2.2.2.2 a t _ ha).2.2) 0 2 rfl rfl hi hdg kk
/-- a byte of a constant array -/
theorem ro_baldc (X : CallFix p m c cc nL s args lw_all own) (w : hp_Ws G B h s H locs) (hdg : decode cc pc = .ok (.baload, 1)) {a t n : Nat} {f : Nat → Value} {i : Int32} (ha : h a = some (t, hp_ca 2 n f)) (hi : vp_in i n)
    (kk : W p l e R s m args below meth c H locs cells slots Q (F0 m (pc + 1) ls (f i.toNatClampNeg :: rest))) : W p l e R s m args below meth c H locs cells slots Q (F0 m pc ls (.int i :: .ref a :: rest)) := by
  obtain ⟨cell, q1, q2, q3, q4, q5, q6⟩ := (w.2.2.2.2 a t _ ha).2.2
  have hlt : i.toNatClampNeg < n := Nat.not_le.mp fun q => hi (Or.inr q)
  have harr := (w.1.1.2 2 (G.2 2, .byte) rfl).1 0 (fun _ => .null)
  have hof : s.isArrayOf cell .byte := by
    obtain ⟨-, kA, h2, comp, h3⟩ := harr
    exact ⟨fun z hz => (by rw [hz] at q2; cases q2), kA, (by rw [q4]; exact h2), comp, h3⟩
  exact W.bald X.1 X.2.1 q1 hof q3 (by rw [q5]; exact hi) (q6 _ hlt) rfl rfl hdg kk
theorem ro_lald (X : CallFix p m c cc nL s args lw_all own) (w : hp_Ws G B h s H locs) (hdg : decode cc pc = .ok (.laload, 1)) {a t n : Nat} {f : Nat → Int64} {i : Int32} (ha : h a = some (t, hp_al G n f)) (hi : vp_in i n)
    (kk : W p l e R s m args below meth c H locs cells slots Q (F0 m (pc + 1) ls (.long (f i.toNatClampNeg) :: rest))) : W p l e R s m args below meth c H locs cells slots Q (F0 m pc ls (.int i :: .ref a :: rest)) :=
  va_lald X.1 X.2.1 w.1.1 (hp_P1 (w.2.2.2.2 a t _ ha).2.2) 0 1 rfl rfl hi hdg kk
theorem ro_aald (X : CallFix p m c cc nL s args lw_all own) (w : hp_Ws G B h s H locs) (hdg : decode cc pc = .ok (.aaload, 1)) {a t n k : Nat} {C : String} {f : Nat → Option Nat} {i : Int32} (hk : (hp_ty G)[k]? = some (G.2 k, .object C)) (ha : h a = some (t, hp_aq G k n f)) (hi : vp_in i n)
    (kk : W p l e R s m args below meth c H locs cells slots Q (F0 m (pc + 1) ls (va_rf (f i.toNatClampNeg) :: rest))) : W p l e R s m args below meth c H locs cells slots Q (F0 m pc ls (.int i :: .ref a :: rest)) :=
  va_aldq X.1 X.2.1 w.1.1 (hp_P1 (w.2.2.2.2 a t _ ha).2.2) 0 k rfl hk hi hdg kk
theorem ro_alen (X : CallFix p m c cc nL s args lw_all own) (w : hp_Ws G B h s H locs) (hdg : decode cc pc = .ok (.arraylength, 1)) {a t k : Nat} {ty : FieldType} {x : vp_A} (hk : (hp_ty G)[k]? = some (G.2 k, ty)) (ha : h a = some (t, Sum.inl (Sum.inl (G.2 k, x))))
    (kk : W p l e R s m args below meth c H locs cells slots Q (F0 m (pc + 1) ls (.int (Int32.ofNat x.1) :: rest))) : W p l e R s m args below meth c H locs cells slots Q (F0 m pc ls (.ref a :: rest)) :=
  va_alen X.1 X.2.1 w.1.1 (hp_P1 (w.2.2.2.2 a t _ ha).2.2) 0 k rfl hk rfl hdg kk
theorem ro_alenc (X : CallFix p m c cc nL s args lw_all own) (w : hp_Ws G B h s H locs) (hdg : decode cc pc = .ok (.arraylength, 1)) {a t k n : Nat} {ty : FieldType} {f : Nat → Value} (hk : (hp_ty G)[k]? = some (G.2 k, ty)) (ha : h a = some (t, hp_ca k n f))
    (kk : W p l e R s m args below meth c H locs cells slots Q (F0 m (pc + 1) ls (.int (Int32.ofNat n) :: rest))) : W p l e R s m args below meth c H locs cells slots Q (F0 m pc ls (.ref a :: rest)) := by
  obtain ⟨cell, q1, q2, q3, q4, q5, q6⟩ := (w.2.2.2.2 a t _ ha).2.2
  have harr := (w.1.1.2 k (G.2 k, ty) hk).1 0 (fun _ => .null)
  have hof : s.isArrayOf cell ty := by
    obtain ⟨-, kA, h2, comp, h3⟩ := harr
    exact ⟨fun z hz => (by rw [hz] at q2; cases q2), kA, (by rw [q4]; exact h2), comp, h3⟩
  exact W.alen (n := Int32.ofNat n) X.1 X.2.1 q1 hof (by rw [q5]) rfl rfl hdg kk
theorem ro_iast (X : CallFix p m c cc nL s args lw_all own) (w : hp_Ws G B h s H locs) (hdg : decode cc pc = .ok (.iastore, 1)) {a t n : Nat} {f : Nat → Int32} {i x : Int32} (ha : h a = some (t, hp_ai G n f)) (ht : t ≠ 0) (hi : vp_in i n)
    (kk : ∀ (H1 : Heap) (locs1 : List Loc), hp_Ws G B (hp_up h a (t, hp_ai G n (upd f i.toNatClampNeg x))) s H1 locs1 → W p l e R s m args below meth c H1 locs1 cells slots Q (F0 m (pc + 1) ls rest)) : W p l e R s m args below meth c H locs cells slots Q (F0 m pc ls (.int x :: .int i :: .ref a :: rest)) := by
  refine W.iast X.1 X.2.1 (w.2.2.2.2 a t _ ha).2.2 ((w.1.1.2 0 (G.2 0, .int) rfl).1 n (fun j => .int (f j))) (fun q => by cases q) (by show ¬ (i < 0 ∨ (arrV _ _ _).slots.size ≤ _); rw [arrV_size]; exact hi) rfl rfl hdg fun H1 e z oq => ?_
  refine kk H1 _ (w.put ha ht ?_ z oq)
  show H1[a]? = some (vp_cell _ _)
  rw [e]
  show some ((vp_cell _ _).setSlot _ _) = _
  rw [vp_cell_i, vp_cell_i, arrV_store]
  congr 2
  funext q
  by_cases hq : q = i.toNatClampNeg
  · subst hq
    simp [updV, upd]
  · simp [updV, upd, hq]
theorem ro_bast (X : CallFix p m c cc nL s args lw_all own) (w : hp_Ws G B h s H locs) (hdg : decode cc pc = .ok (.bastore, 1)) {a t n : Nat} {f : Nat → Int32} {i x : Int32} (ha : h a = some (t, hp_ab G n f)) (ht : t ≠ 0) (hi : vp_in i n)
    (kk : ∀ (H1 : Heap) (locs1 : List Loc), hp_Ws G B (hp_up h a (t, hp_ab G n (upd f i.toNatClampNeg (vp_nar .byte x)))) s H1 locs1 → W p l e R s m args below meth c H1 locs1 cells slots Q (F0 m (pc + 1) ls rest)) : W p l e R s m args below meth c H locs cells slots Q (F0 m pc ls (.int x :: .int i :: .ref a :: rest)) := by
  refine W.bast X.1 X.2.1 (w.2.2.2.2 a t _ ha).2.2 ((w.1.1.2 2 (G.2 2, .byte) rfl).1 n (fun j => .int (f j))) (fun q => by cases q) (by show ¬ (i < 0 ∨ (arrV _ _ _).slots.size ≤ _); rw [arrV_size]; exact hi) rfl rfl hdg fun H1 e z oq => ?_
  refine kk H1 _ (w.put ha ht ?_ z oq)
  show H1[a]? = some (vp_cell _ _)
  rw [e]
  show some ((vp_cell _ _).setSlot _ _) = _
  rw [vp_cell_i, vp_cell_i, arrV_store]
  congr 2
  funext q
  by_cases hq : q = i.toNatClampNeg
  · subst hq
    simp [updV, upd, vp_nar]
    try rfl
  · simp [updV, upd, hq]
theorem ro_last (X : CallFix p m c cc nL s args lw_all own) (w : hp_Ws G B h s H locs) (hdg : decode cc pc = .ok (.lastore, 1)) {a t n : Nat} {f : Nat → Int64} {i : Int32} {x : Int64} (ha : h a = some (t, hp_al G n f)) (ht : t ≠ 0) (hi : vp_in i n)
    (kk : ∀ (H1 : Heap) (locs1 : List Loc), hp_Ws G B (hp_up h a (t, hp_al G n (vp_updL f i.toNatClampNeg x))) s H1 locs1 → W p l e R s m args below meth c H1 locs1 cells slots Q (F0 m (pc + 1) ls rest)) : W p l e R s m args below meth c H locs cells slots Q (F0 m pc ls (.long x :: .int i :: .ref a :: rest)) := by
  refine W.last X.1 X.2.1 (w.2.2.2.2 a t _ ha).2.2 ((w.1.1.2 1 (G.2 1, .long) rfl).1 n (fun j => .long (f j))) (fun q => by cases q) (by show ¬ (i < 0 ∨ (arrV _ _ _).slots.size ≤ _); rw [arrV_size]; exact hi) rfl rfl hdg fun H1 e z oq => ?_
  refine kk H1 _ (w.put ha ht ?_ z oq)
  show H1[a]? = some (vp_cell _ _)
  rw [e]
  show some ((vp_cell _ _).setSlot _ _) = _
  rw [vp_cell_l, vp_cell_l, arrV_store]
  congr 2
  funext q
  by_cases hq : q = i.toNatClampNeg
  · subst hq
    simp [updV, vp_updL]
  · simp [updV, vp_updL, hq]
/-- an object of ours may lie in a row of E -/
theorem hp_any (w : hp_Ws G B h s H locs) {v t ci : Nat} {vs : List Value} {C E : String} {T : u_T} {N : Nat} (hc : hp_cl[ci]? = some (C, T, N)) (hv : h v = some (t, hp_ob ci vs)) (hca : Cond.castable C E ∈ lw_tbl) : va_Any E s H v := by
  refine va_rAny (r := (C, T, N)) w.1.1 (hp_P1 (w.2.2.2.2 v t _ hv).2.2) (q0 := 0) rfl hc (fun comp c0 h1 h2 => ?_)
  obtain ⟨c1, t1, f1, f2, f3⟩ := Cond.castable_spec (va_Nw.use (A := #[]) rfl (w.1.2.1 _ hca rfl))
  cases h2.symm.trans f1
  cases h1.symm.trans f2
  exact f3
theorem ro_aast (X : CallFix p m c cc nL s args lw_all own) (w : hp_Ws G B h s H locs) (hdg : decode cc pc = .ok (.aastore, 1)) {a t n k v : Nat} {E : String} {f : Nat → Option Nat} {i : Int32} (hk : (hp_ty G)[k]? = some (G.2 k, .object E)) (ha : h a = some (t, hp_aq G k n f)) (ht : t ≠ 0) (hi : vp_in i n) (hr : va_Any E s H v)
    (kk : ∀ (H1 : Heap) (locs1 : List Loc), hp_Ws G B (hp_up h a (t, hp_aq G k n (va_up f i.toNatClampNeg (some v)))) s H1 locs1 → W p l e R s m args below meth c H1 locs1 cells slots Q (F0 m (pc + 1) ls rest)) : W p l e R s m args below meth c H locs cells slots Q (F0 m pc ls (.ref v :: .int i :: .ref a :: rest)) := by
  have hlt : i.toNatClampNeg < n := Nat.not_le.mp fun q => hi (Or.inr q)
  have h0 : ¬ i < 0 := fun q => hi (Or.inl q)
  obtain ⟨cellV, g1, g3, ⟨kC, hkC⟩, hasg⟩ := hr
  obtain ⟨kA, comp, k1, k2, k3, -⟩ := (w.1.1.2 k _ hk).2
  obtain ⟨kE, hkE, -⟩ := Vm.findClass_spec k3
  refine W.aast X.1 X.2.1 (w.2.2.2.2 a t _ ha).2.2 (fun q h => by cases h) (fun h => by cases h) k1 k2 rfl hkE ⟨h0, by show _ < (arrV _ _ _).slots.size; rw [arrV_size]; exact hlt⟩ g1 (fun q h => by rw [h] at g3; cases g3) hkC (hasg _ k3) rfl rfl hdg fun H1 e z oq => ?_
  refine kk H1 _ (w.put ha ht ?_ z oq)
  show H1[a]? = some (vp_cell _ _)
  rw [e]
  show some ((vp_cell _ _).setSlot _ _) = _
  rw [vp_cell_q, vp_cell_q, arrV_store]
  congr 2
  funext q
  by_cases hq : q = i.toNatClampNeg
  · subst hq
    simp [updV, va_up, va_rf]
  · simp [updV, va_up, hq]
theorem ro_aastN (X : CallFix p m c cc nL s args lw_all own) (w : hp_Ws G B h s H locs) (hdg : decode cc pc = .ok (.aastore, 1)) {a t n k : Nat} {E : String} {f : Nat → Option Nat} {i : Int32} (hk : (hp_ty G)[k]? = some (G.2 k, .object E)) (ha : h a = some (t, hp_aq G k n f)) (ht : t ≠ 0) (hi : vp_in i n)
    (kk : ∀ (H1 : Heap) (locs1 : List Loc), hp_Ws G B (hp_up h a (t, hp_aq G k n (va_up f i.toNatClampNeg none))) s H1 locs1 → W p l e R s m args below meth c H1 locs1 cells slots Q (F0 m (pc + 1) ls rest)) : W p l e R s m args below meth c H locs cells slots Q (F0 m pc ls (.null :: .int i :: .ref a :: rest)) := by
  refine va_WaastN (C := E) X.1 X.2.1 (w.2.2.2.2 a t _ ha).2.2 ((w.1.1.2 k _ hk).1 n (fun j => va_rf (f j))) (fun h => by cases h) (by show ¬ (i < 0 ∨ (arrV _ _ _).slots.size ≤ _); rw [arrV_size]; exact hi) rfl rfl hdg fun H1 e z oq => ?_
  refine kk H1 _ (w.put ha ht ?_ z oq)
  show H1[a]? = some (vp_cell _ _)
  rw [e]
  show some ((vp_cell _ _).setSlot _ _) = _
  rw [vp_cell_q, vp_cell_q, arrV_store]
  congr 2
  funext q
  by_cases hq : q = i.toNatClampNeg
  · subst hq
    simp [updV, va_up, va_rf]
  · simp [updV, va_up, hq]
/-! ===== new ===== -/
theorem hp_Ws.new {s : State} {H H1 : Heap} {locs : List Loc} {t : Nat} {x : hp_C} (w : hp_Ws G B h s H locs) (ht : t ≠ 0) (he : hp_at G H.size x H1) (z : H1.size = H.size + 1) (oq : ∀ q : Nat, q < H.size → H1[q]? = H[q]?) : hp_Ws G B (hp_up h H.size (t, x)) s H1 locs :=
  ⟨w.1, w.2.1, w.2.2.1, ⟨Nat.le_trans w.2.2.2.1.1 (by omega), fun x h1 h2 => (oq x (Nat.lt_of_lt_of_le h1 w.2.2.2.1.1)).trans (w.2.2.2.1.2.1 x h1 h2), w.2.2.2.1.2.2⟩, w.2.2.2.2.new w.size ht he oq⟩
theorem ro_new (X : CallFix p m c cc nL s args lw_all own) (w : hp_Ws G B h s H locs) {C : String} {T : u_T} {N ci index : Nat} (hc : hp_cl[ci]? = some (C, T, N)) (hin : ∀ w ∈ u_ws C T N, w ∈ lw_all) (ty : Nat → FieldType) (hty : ∀ k, k < N → parseFieldDescriptor (T k).2.2.1 = some (ty k)) (hcl : Cond.classLink own index C ∈ lw_all) (hinst : Cond.instantiable C N ∈ lw_all) (hini : Cond.initialized C ∈ lw_all) (hdg : decode cc pc = .ok (.new index, 3)) {fs : List Value} (hfs : ∀ j, j < N → defaultValue (ty j) = vp_V fs j) (t : Nat) (ht : t ≠ 0) (hcells : cells + 1 ≤ R.cells) (hslots : slots + N ≤ R.slots)
    (kk : ∀ (q : Nat) (H1 : Heap), h q = none → hp_Ws G B (hp_up h q (t, hp_ob ci fs)) s H1 locs → W p l e R s m args below meth c H1 locs (cells + 1) (slots + N) Q (F0 m (pc + 3) ls (.ref q :: rest))) : W p l e R s m args below meth c H locs cells slots Q (F0 m pc ls rest) := by
  have hKn := w.1.1.1 ci _ hc
  refine W.newcK X.1 X.2.1 X.2.2.2.1 (X.2.2.2.2 _ hcl) (X.2.2.2.2 _ hinst) (X.2.2.2.2 _ hini) rfl hdg hcells hslots hKn.2.1 rfl fun H1 kC hkC e1 z1 o1 => ?_
  exact kk H.size H1 w.2.2.2.2.fresh (w.new ht ⟨_, hc, (u_born ty X.2.2.2.2 hin hKn hkC e1 hty).to hfs⟩ z1 o1)
theorem ro_newa (X : CallFix p m c cc nL s args lw_all own) (w : hp_Ws G B h s H locs) {atype : ArrayType} (harr : Cond.arrayClass (newarray.typeOf atype) ∈ lw_all) (k : Nat) (hk : (hp_ty G)[k]? = some (G.2 k, newarray.typeOf atype)) (hdg : decode cc pc = .ok (.newarray atype, 2)) {n : Int32} {N' : Nat} {x : vp_A} (hx : ∀ cA : ClassId, vp_cell cA x = arrV cA N' (fun _ => defaultValue (newarray.typeOf atype))) (hn : ¬ n < 0) (hN : n.toNatClampNeg = N') (t : Nat) (ht : t ≠ 0) (hbytes : N' * componentBytes (newarray.typeOf atype) ≤ 536870912) (hcells : cells + 1 ≤ R.cells) (hslots : slots + N' ≤ R.slots)
    (kk : ∀ (q : Nat) (H1 : Heap), h q = none → hp_Ws G B (hp_up h q (t, Sum.inl (Sum.inl (G.2 k, x)))) s H1 locs → W p l e R s m args below meth c H1 locs (cells + 1) (slots + N') Q (F0 m (pc + 2) ls (.ref q :: rest))) : W p l e R s m args below meth c H locs cells slots Q (F0 m pc ls (.int n :: rest)) := by
  refine va_newaK X.1 X.2.1 (X.2.2.2.2 _ harr) rfl hdg rfl hn hN hbytes hcells hslots rfl fun H1 cA e1 z1 o1 hAr hNm => ?_
  have hca : cA = G.2 k := by
    have h2 := (w.1.1.2 k _ hk).2
    have h3 : s.vm.findClass ("[" ++ (newarray.typeOf atype).toString) = some (G.2 k) := by cases atype <;> exact h2
    exact Option.some.inj (hNm.symm.trans h3)
  subst hca
  refine kk H.size H1 w.2.2.2.2.fresh (w.new ht ?_ z1 o1)
  show H1[H.size]? = some (vp_cell _ _)
  rw [hx]
  exact e1
theorem ro_anew (X : CallFix p m c cc nL s args lw_all own) (w : hp_Ws G B h s H locs) {C : String} {index : Nat} (hcl : Cond.classLink own index C ∈ lw_all) (hover : va_AO C s) (k : Nat) (hk : (hp_ty G)[k]? = some (G.2 k, .object C)) (hdg : decode cc pc = .ok (.anewarray index, 3)) {n : Int32} {N' : Nat} (hn : ¬ n < 0) (hN : n.toNatClampNeg = N') (t : Nat) (ht : t ≠ 0) (hbytes : N' * 4 ≤ 536870912) (hcells : cells + 1 ≤ R.cells) (hslots : slots + N' ≤ R.slots)
    (kk : ∀ (q : Nat) (H1 : Heap), h q = none → hp_Ws G B (hp_up h q (t, hp_aq G k N' (fun _ => none))) s H1 locs → W p l e R s m args below meth c H1 locs (cells + 1) (slots + N') Q (F0 m (pc + 3) ls (.ref q :: rest))) : W p l e R s m args below meth c H locs cells slots Q (F0 m pc ls (.int n :: rest)) := by
  subst hN
  refine W.anew X.1 X.2.1 X.2.2.2.1 (X.2.2.2.2 _ hcl) (va_AO.use hover) rfl hdg rfl hn hbytes hcells hslots fun cA kA comp f1 f2 f3 f4 => ?_
  generalize hH1 : H.push ({ cls := cA, slots := Array.replicate n.toNatClampNeg .null, vm := .none } : Cell) = H1
  have z1 : H1.size = H.size + 1 := by rw [← hH1, Array.size_push]
  have e1 : H1[H.size]? = some (arrV cA n.toNatClampNeg (fun _ => .null)) := by rw [← hH1, Array.getElem?_push_size, ← arrV_new]
  have o1 : ∀ q : Nat, q < H.size → H1[q]? = H[q]? := fun q hq => by rw [← hH1, Array.getElem?_push, if_neg (Nat.ne_of_lt hq)]
  have hca : cA = G.2 k := by
    obtain ⟨-, -, -, -, -, h4⟩ := (w.1.1.2 k _ hk).2
    exact Option.some.inj (f1.symm.trans h4)
  subst hca
  refine kk H.size H1 w.2.2.2.2.fresh (w.new ht ?_ z1 o1)
  exact e1
/-! ===== the class of an object ===== -/
theorem hp_recv (w : hp_Ws G B h s H locs) {a t ci : Nat} {fs : List Value} {C : String} {T : u_T} {N : Nat} (hc : hp_cl[ci]? = some (C, T, N)) (ha : h a = some (t, hp_ob ci fs)) : ∃ cell : Cell, H[a]? = some cell ∧ cell.vm.isStatics = false ∧ s.vm.findClass C = some cell.cls := va_recv (q := (C, T, N)) w.1.1 (hp_P1 (w.2.2.2.2 a t _ ha).2.2) (q0 := 0) hc rfl
theorem hp_recvc (w : hp_Ws G B h s H locs) {a t ci : Nat} {fs : List Value} {C : String} {T : u_T} {N : Nat} (hc : hp_cl[ci]? = some (C, T, N)) (ha : h a = some (t, hp_co ci fs)) : ∃ cell : Cell, H[a]? = some cell ∧ cell.vm.isStatics = false ∧ s.vm.findClass C = some cell.cls := by
  obtain ⟨cell, r, q1, q2, q2', q3, q4, q5⟩ := (w.2.2.2.2 a t _ ha).2.2
  exact ⟨cell, q1, q2, by rw [q3]; exact (w.1.1.1 ci _ hc).2.1⟩
theorem ro_castY (X : CallFix p m c cc nL s args lw_all own) (w : hp_Ws G B h s H locs) {C nm : String} {index : Nat} (hlink : Cond.classLink own index nm ∈ lw_all) (hca : Cond.castable C nm ∈ lw_tbl) (hdg : decode cc pc = .ok (.checkcast index, 3)) {a : Nat} (hr : ∃ cell : Cell, H[a]? = some cell ∧ cell.vm.isStatics = false ∧ s.vm.findClass C = some cell.cls)
    (kk : W p l e R s m args below meth c H locs cells slots Q (F0 m (pc + 3) ls (.ref a :: rest))) : W p l e R s m args below meth c H locs cells slots Q (F0 m pc ls (.ref a :: rest)) :=
  va_castY X.1 X.2.1 X.2.2.2.1 (X.2.2.2.2 _ hlink) (w.1.2.1 _ hca rfl) hr hdg kk
theorem ro_castS (X : CallFix p m c cc nL s args lw_all own) (w : hp_Ws G B h s H locs) {C : String} {T : u_T} {N ci index : Nat} (hc : hp_cl[ci]? = some (C, T, N)) (hlink : Cond.classLink own index C ∈ lw_all) (hdg : decode cc pc = .ok (.checkcast index, 3)) {a t : Nat} {fs : List Value} (ha : h a = some (t, hp_ob ci fs))
    (kk : W p l e R s m args below meth c H locs cells slots Q (F0 m (pc + 3) ls (.ref a :: rest))) : W p l e R s m args below meth c H locs cells slots Q (F0 m pc ls (.ref a :: rest)) :=
  va_castS X.1 X.2.1 X.2.2.2.1 (X.2.2.2.2 _ hlink) (w.1.1.1 ci _ hc).2 (hp_recv w hc ha) hdg kk
theorem ro_instS (X : CallFix p m c cc nL s args lw_all own) (w : hp_Ws G B h s H locs) {C : String} {T : u_T} {N ci index : Nat} (hc : hp_cl[ci]? = some (C, T, N)) (hlink : Cond.classLink own index C ∈ lw_all) (hdg : decode cc pc = .ok (.instanceof index, 3)) {a t : Nat} {fs : List Value} (ha : h a = some (t, hp_ob ci fs))
    (kk : W p l e R s m args below meth c H locs cells slots Q (F0 m (pc + 3) ls (.int 1 :: rest))) : W p l e R s m args below meth c H locs cells slots Q (F0 m pc ls (.ref a :: rest)) :=
  va_instS X.1 X.2.1 X.2.2.2.1 (X.2.2.2.2 _ hlink) (w.1.1.1 ci _ hc).2 (hp_recv w hc ha) hdg kk
theorem ro_instNo (X : CallFix p m c cc nL s args lw_all own) (w : hp_Ws G B h s H locs) {C nm : String} {T : u_T} {N ci index : Nat} (hc : hp_cl[ci]? = some (C, T, N)) (hlink : Cond.classLink own index nm ∈ lw_all) (hn : (C, nm) ∈ hp_ncs) (hdg : decode cc pc = .ok (.instanceof index, 3)) {a t : Nat} {fs : List Value} (ha : h a = some (t, hp_ob ci fs))
    (kk : W p l e R s m args below meth c H locs cells slots Q (F0 m (pc + 3) ls (.int 0 :: rest))) : W p l e R s m args below meth c H locs cells slots Q (F0 m pc ls (.ref a :: rest)) :=
  va_instNo X.1 X.2.1 X.2.2.2.1 (X.2.2.2.2 _ hlink) (w.1.2.2.2.2.2.2.2.1 _ hn) (hp_recv w hc ha) hdg kk
/-! ===== calls ===== -/
theorem hp_Ws.back {s t T' : State} {H : Heap} {locs L : List Loc} {h' : hp_H} (w : hp_Ws G B h s H locs) (e1 : T'.heap = t.heap) (hz : H.size ≤ t.heap.size) (hk : ∀ q : Nat, q < H.size → ¬ B ≤ q → t.heap[q]? = H[q]?) (hL : ∀ q ∈ L, B ≤ q.base) (hb : hp_Hp G B h' t.heap) : hp_Ws G B h' s T'.heap (locs ++ L) := by
  refine ⟨w.1, w.2.1, w.2.2.1, ⟨Nat.le_trans w.2.2.2.1.1 (by rw [e1]; exact hz), fun q h1 h2 => ?_, fun q hq => ?_⟩, by rw [e1]; exact hb⟩
  · rw [e1, hk q (Nat.lt_of_lt_of_le h1 w.2.2.2.1.1) h2]
    exact w.2.2.2.1.2.1 q h1 h2
  · rcases List.mem_append.mp hq with h | h
    · exact w.2.2.2.1.2.2 q h
    · exact hL q h
theorem ro_kk {mc ms : Nat} {st0 : List Value} {post : Option Value → hp_H → Prop} {av : Array Value} (hr : va_Run p l e R s m args below meth c H locs cells slots mc ms (F0 m pc ls st0) rest (hp_Q G B post av) (fun q => B ≤ q)) (w : hp_Ws G B h s H locs)
    (kk : ∀ (v : Option Value) (h' : hp_H) (H1 : Heap) (locs1 : List Loc), post v h' → hp_Ws G B h' s H1 locs1 → W p l e R s m args below meth c H1 locs1 (cells + mc) (slots + ms) Q (F0 m (pc + 3) ls (v.toList ++ rest))) : W p l e R s m args below meth c H locs cells slots Q (F0 m pc ls st0) := by
  intro T hT X
  obtain ⟨v, st₀, t, T', L, h0, X', hL, e1, e2, ⟨⟨v', h', hv, hp, hb⟩, hz, hk⟩, st⟩ := hr T hT X
  cases hv
  rw [h0] at hz hk
  obtain ⟨t2, a1, b1⟩ := kk v h' T'.heap (locs ++ L) hp (w.back e1 hz hk hL hb) T' rfl X'
  exact ⟨t2, st t2 a1, b1⟩
theorem ro_kk5 {mc ms : Nat} {st0 : List Value} {post : Option Value → hp_H → Prop} {av : Array Value} (hr : va_Run5 p l e R s m args below meth c H locs cells slots mc ms (F0 m pc ls st0) rest (hp_Q G B post av) (fun q => B ≤ q)) (w : hp_Ws G B h s H locs)
    (kk : ∀ (v : Option Value) (h' : hp_H) (H1 : Heap) (locs1 : List Loc), post v h' → hp_Ws G B h' s H1 locs1 → W p l e R s m args below meth c H1 locs1 (cells + mc) (slots + ms) Q (F0 m (pc + 5) ls (v.toList ++ rest))) : W p l e R s m args below meth c H locs cells slots Q (F0 m pc ls st0) := by
  intro T hT X
  obtain ⟨v, st₀, t, T', L, h0, X', hL, e1, e2, ⟨⟨v', h', hv, hp, hb⟩, hz, hk⟩, st⟩ := hr T hT X
  cases hv
  rw [h0] at hz hk
  obtain ⟨t2, a1, b1⟩ := kk v h' T'.heap (locs ++ L) hp (w.back e1 hz hk hL hb) T' rfl X'
  exact ⟨t2, st t2 a1, b1⟩
/-- a call that may throw; what is thrown is dealt with by kx -/
theorem ro_kkH {mc ms : Nat} {st0 : List Value} {post : Option Value → hp_H → Prop} {px : String → hp_H → Prop} {av : Array Value} (hr : vx_Run p l e R s m args below meth c H locs cells slots mc ms (F0 m pc ls st0) rest (hp_Q G B post av) (hp_X G B px) (fun q => B ≤ q)) (w : hp_Ws G B h s H locs)
    (kx : ∀ (E : String) (ce : Cell) (q9 : Addr) (h' : hp_H) (H1 : Heap) (locs1 : List Loc), px E h' → hp_Ws G B h' s H1 locs1 → H1[q9]? = some ce → ce.vm = .none → s.vm.findClass E = some ce.cls → vx_W p l e R s m args below meth c H1 locs1 (cells + mc) (slots + ms) Q (F0 m pc ls rest) q9)
    (kk : ∀ (v : Option Value) (h' : hp_H) (H1 : Heap) (locs1 : List Loc), post v h' → hp_Ws G B h' s H1 locs1 → W p l e R s m args below meth c H1 locs1 (cells + mc) (slots + ms) Q (F0 m (pc + 3) ls (v.toList ++ rest))) : W p l e R s m args below meth c H locs cells slots Q (F0 m pc ls st0) := by
  intro T hT X
  rcases hr T hT X with ⟨v, st₀, t, T', L, h0, X', hL, e1, e2, ⟨⟨v', h', hv, hp, hb⟩, hz, hk⟩, st⟩ | ⟨q, st₀, t, T', L, E, ce, h0, X', hL, e1, e2, ⟨⟨h', hp, hb⟩, hz, hk⟩, hq, hv, hcl, st⟩
  · cases hv
    rw [h0] at hz hk
    obtain ⟨t2, a1, b1⟩ := kk v h' T'.heap (locs ++ L) hp (w.back e1 hz hk hL hb) T' rfl X'
    exact ⟨t2, st t2 a1, b1⟩
  · rw [h0] at hz hk
    obtain ⟨t2, a1, b1⟩ := kx E ce q h' T'.heap (locs ++ L) hp (w.back e1 hz hk hL hb) (by rw [e1]; exact hq) hv hcl T' rfl X'
    exact ⟨t2, st.trans a1, b1⟩
/-- a call that may throw, in a body without handlers: what is thrown goes on -/
theorem ro_kkX {mc ms mc' ms' : Nat} {st0 : List Value} {post : Option Value → hp_H → Prop} {px px' : String → hp_H → Prop} {av : Array Value} {Qc : Array Value → State → Outcome → State → Prop} (hr : vx_Run p l e R s m args below meth c H locs cells slots mc ms (F0 m pc ls st0) rest (hp_Q G B post av) (hp_X G B px) (fun q => B ≤ q)) (w : hp_Ws G B h s H locs) (ht : ∀ x ∈ c.exceptionTable.toList, False) (hlocks : meth.locks = false) (hc : cells + mc ≤ mc') (hs : slots + ms ≤ ms')
    (hx : ∀ (E : String) (h' : hp_H), px E h' → px' E h')
    (kk : ∀ (v : Option Value) (h' : hp_H) (H1 : Heap) (locs1 : List Loc), post v h' → hp_Ws G B h' s H1 locs1 → W p l e R s m args below meth c H1 locs1 (cells + mc) (slots + ms) (vx_MQ below Qc (hp_X G B px') args s mc' ms' (fun q => B ≤ q)) (F0 m (pc + 3) ls (v.toList ++ rest))) : W p l e R s m args below meth c H locs cells slots (vx_MQ below Qc (hp_X G B px') args s mc' ms' (fun q => B ≤ q)) (F0 m pc ls st0) := by
  refine ro_kkH hr w (fun E ce q9 h' H1 locs1 hp w1 hq hv hcl => ?_) kk
  exact vx_out (fun x hx => absurd (ht x hx) id) hlocks hq hv hcl (fun t ht hA => ⟨⟨h', hx E h' hp, by rw [ht]; exact w1.2.2.2.2⟩, va_S.F w1.2.2.2.1 ht⟩) w1.2.2.2.1.2.2 hc hs
end RO
