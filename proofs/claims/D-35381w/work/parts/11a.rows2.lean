/-! MORE ROWS AND SITES (printed by tools/m11a.py) -/
set_option maxRecDepth 100000
section MORE
variable {p : Program} {l : Launch} {e : Env} {R : Room} {s : State} {m : MethodId} {args : Array Value} {below : List Frame} {meth : Method} {c : Code} {H : Heap} {locs : List Loc} {cells slots : Nat} {Q : State → Prop}
variable {cc : ByteArray} {nL pc : Nat} {ls : Array Slot} {rest st : List Value} {G : hp_G} {B : Nat} {h : hp_H} {L : List (Option Value)}
variable {d mc ms : Nat} {av : List Value} {post : Option Value → hp_H → Prop} {px : String → hp_H → Prop} {b : Nat}
variable {own : String}
/-- Object's constructor -/
theorem ro_oi (X : CallFix p m c cc nL s args lw_all own) (hl : hp_L ls nL L) {idx : Nat} (hlink : Cond.methodLink own idx Lib.objectInit ∈ lw_all) (hd : decode cc pc = .ok (.invokespecial idx, 3)) {a : Nat} (hfr : 1 ≤ R.frames) (hlo : 4000 ≤ R.locals) (hroom : (rest.map fun v => v.category).sum ≤ 8)
    (kk : W p l e R s m args below meth c H locs cells slots Q (F0 m (pc + 3) ls rest)) : W p l e R s m args below meth c H locs cells slots Q (F0 m pc ls (.ref a :: rest)) :=
  W.objInit X.1 X.2.1 X.2.2.2.1 (X.2.2.2.2 _ hlink) (X.2.2.2.2 _ q90) (X.2.2.2.2 _ q91) rfl (by rw [X.2.2.1]; exact hl.1) rfl hd hfr (Nat.le_trans (show 0 + (rest.map fun v => v.category).sum + 12 ≤ 4000 by omega) hlo) kk
theorem ro_ifnull (X : CallFix p m c cc nL s args lw_all own) (o : Option Nat) {off : Int} {tgt : Nat} (hdg : decode cc pc = .ok (.ifnull off, 3)) (ht : (pc : Int) + off = (tgt : Int)) (kt : o = none → W p l e R s m args below meth c H locs cells slots Q (F0 m tgt ls rest)) (kf : ∀ z, o = some z → W p l e R s m args below meth c H locs cells slots Q (F0 m (pc + 3) ls rest)) : W p l e R s m args below meth c H locs cells slots Q (F0 m pc ls (va_rf o :: rest)) := by
  cases o with
  | none => exact lv_ifnullN X.1 X.2.1 hdg ht (kt rfl)
  | some z => exact lv_ifnull X.1 X.2.1 hdg (kf z rfl)
theorem ro_ifnonnull (X : CallFix p m c cc nL s args lw_all own) (o : Option Nat) {off : Int} {tgt : Nat} (hdg : decode cc pc = .ok (.ifnonnull off, 3)) (ht : (pc : Int) + off = (tgt : Int)) (kt : ∀ z, o = some z → W p l e R s m args below meth c H locs cells slots Q (F0 m tgt ls rest)) (kf : o = none → W p l e R s m args below meth c H locs cells slots Q (F0 m (pc + 3) ls rest)) : W p l e R s m args below meth c H locs cells slots Q (F0 m pc ls (va_rf o :: rest)) := by
  cases o with
  | none => exact lv_ifnonnullN X.1 X.2.1 hdg (kf rfl)
  | some z => exact lv_ifnonnull X.1 X.2.1 hdg ht (kt z rfl)
theorem hp_up_id {h : hp_H} {a : Nat} {x : Nat × hp_C} (ha : h a = some x) : hp_up h a x = h := by
  funext q
  by_cases e : q = a
  · subst e; exact (hp_up_s _ _ _).trans ha.symm
  · exact hp_up_n e
theorem hp_up_up (h : hp_H) (a : Nat) (x y : Nat × hp_C) : hp_up (hp_up h a x) a y = hp_up h a y := by
  funext q
  by_cases e : q = a
  · subst e; rw [hp_up_s, hp_up_s]
  · rw [hp_up_n e, hp_up_n e, hp_up_n e]
theorem ro_max (X : CallFix p m c cc nL s args lw_all own) (hl : hp_L ls nL L) {index : Nat} (hlink : Cond.methodLink own index Lib.Math.max.name ∈ lw_all) (hfr : 1 ≤ R.frames) (hlo : 4000 ≤ R.locals) (hroom : (rest.map fun v => v.category).sum ≤ 8) (hc : cells ≤ R.cells) (hs : slots ≤ R.slots) {x y : Int32} (hdg : decode cc pc = .ok (.invokestatic index, 3))
    (kk : W p l e R s m args below meth c H locs cells slots Q (F0 m (pc + 3) ls (.int (if x < y then y else x) :: rest))) : W p l e R s m args below meth c H locs cells slots Q (F0 m pc ls (.int y :: .int x :: rest)) :=
  va_mmax X.1 X.2.1 (by rw [X.2.2.1]; exact hl.1.symm) X.2.2.2.1 (X.2.2.2.2 _ hlink) (X.2.2.2.2 _ q334) (X.2.2.2.2 _ q51) (X.2.2.2.2 _ q335) hfr (by omega) hc hs hdg kk
theorem ro_min (X : CallFix p m c cc nL s args lw_all own) (hl : hp_L ls nL L) {index : Nat} (hlink : Cond.methodLink own index Lib.Math.min.name ∈ lw_all) (hfr : 1 ≤ R.frames) (hlo : 4000 ≤ R.locals) (hroom : (rest.map fun v => v.category).sum ≤ 8) (hc : cells ≤ R.cells) (hs : slots ≤ R.slots) {x y : Int32} (hdg : decode cc pc = .ok (.invokestatic index, 3))
    (kk : W p l e R s m args below meth c H locs cells slots Q (F0 m (pc + 3) ls (.int (if y < x then y else x) :: rest))) : W p l e R s m args below meth c H locs cells slots Q (F0 m pc ls (.int y :: .int x :: rest)) :=
  va_mmin X.1 X.2.1 (by rw [X.2.2.1]; exact hl.1.symm) X.2.2.2.1 (X.2.2.2.2 _ hlink) (X.2.2.2.2 _ q378) (X.2.2.2.2 _ q51) (X.2.2.2.2 _ q379) hfr (by omega) hc hs hdg kk
theorem ro_alenQ (X : CallFix p m c cc nL s args lw_all own) (w : hp_Ws G B h s H locs) (hdg : decode cc pc = .ok (.arraylength, 1)) {a t : Nat} {ty : FieldType} {k n : Nat} {f : Nat → Option Nat} (hk : (hp_ty G)[k]? = some (G.2 k, ty)) (ha : h a = some (t, hp_aq G k n f))
    (kk : W p l e R s m args below meth c H locs cells slots Q (F0 m (pc + 1) ls (.int (nI n) :: rest))) : W p l e R s m args below meth c H locs cells slots Q (F0 m pc ls (.ref a :: rest)) :=
  ro_alen X w hdg (k := k) hk ha kk
theorem ro_alenB (X : CallFix p m c cc nL s args lw_all own) (w : hp_Ws G B h s H locs) (hdg : decode cc pc = .ok (.arraylength, 1)) {a t : Nat} {n : Nat} {f : Nat → Int32} (ha : h a = some (t, hp_ab G n f))
    (kk : W p l e R s m args below meth c H locs cells slots Q (F0 m (pc + 1) ls (.int (nI n) :: rest))) : W p l e R s m args below meth c H locs cells slots Q (F0 m pc ls (.ref a :: rest)) :=
  ro_alen X w hdg (k := 2) rfl ha kk
theorem ro_alenI (X : CallFix p m c cc nL s args lw_all own) (w : hp_Ws G B h s H locs) (hdg : decode cc pc = .ok (.arraylength, 1)) {a t : Nat} {n : Nat} {f : Nat → Int32} (ha : h a = some (t, hp_ai G n f))
    (kk : W p l e R s m args below meth c H locs cells slots Q (F0 m (pc + 1) ls (.int (nI n) :: rest))) : W p l e R s m args below meth c H locs cells slots Q (F0 m pc ls (.ref a :: rest)) :=
  ro_alen X w hdg (k := 0) rfl ha kk
/-- a string constant -/
theorem ro_str (X : CallFix p m c cc nL s args lw_all own) (w : hp_Ws G B h s H locs) (i : Nat) {index : Nat} {tx : String} (hz : hp_strs[i]? = some (own, index, tx)) (hdg : decode cc pc = .ok (.ldc index, 2))
    (kk : W p l e R s m args below meth c H locs cells slots Q (F0 m (pc + 2) ls (.ref (G.2 (10 + i)) :: rest))) : W p l e R s m args below meth c H locs cells slots Q (F0 m pc ls rest) :=
  va_ldcS X.1 X.2.1 X.2.2.2.1 (w.1.2.2.2.2.1 i _ hz) hdg kk
/-- the class of Object[] -/
theorem ro_mir (X : CallFix p m c cc nL s args lw_all own) (w : hp_Ws G B h s H locs) {index : Nat} (hlink : Cond.classLink own index "[Ljava/lang/Object;" ∈ lw_all) (hdg : decode cc pc = .ok (.ldc index, 2))
    (kk : W p l e R s m args below meth c H locs cells slots Q (F0 m (pc + 2) ls (.ref (G.2 30) :: rest))) : W p l e R s m args below meth c H locs cells slots Q (F0 m pc ls rest) :=
  va_ldcM X.1 X.2.1 X.2.2.2.1 (X.2.2.2.2 _ hlink) w.1.2.2.2.2.2.1 hdg kk
theorem ro_getC (X : CallFix p m c cc nL s args lw_all own) (w : hp_Ws G B h s H locs) (hl : hp_L ls nL L) {index : Nat} (hlink : Cond.methodLink own index ⟨"java/lang/Object", "getClass", "()Ljava/lang/Class;"⟩ ∈ lw_all) (hdg : decode cc pc = .ok (.invokevirtual index, 3)) {a t n : Nat} {f : Nat → Option Nat} (ha : h a = some (t, hp_aq G 3 n f)) (hfr : 1 ≤ R.frames) (hlo : 4000 ≤ R.locals) (hroom : (rest.map fun v => v.category).sum ≤ 8)
    (kk : W p l e R s m args below meth c H locs cells slots Q (F0 m (pc + 3) ls (.ref (G.2 30) :: rest))) : W p l e R s m args below meth c H locs cells slots Q (F0 m pc ls (.ref a :: rest)) :=
  va_getC X.1 X.2.1 (by rw [X.2.2.1]; exact hl.1.symm) X.2.2.2.1 (X.2.2.2.2 _ hlink) (va_Dc.use w.1.2.2.2.2.2.2.1) (X.2.2.2.2 _ q2109) (X.2.2.2.2 _ q344) (X.2.2.2.2 _ q370) w.1.2.2.2.2.2.1 ⟨_, (w.2.2.2.2 a t _ ha).2.2, rfl, va_nmO (w.1.1.2 3 _ rfl).2 rfl⟩ hfr (by omega) hdg kk
theorem hp_nn {z : Int32} (hz : ¬ z < 0) : z.toInt = (z.toNatClampNeg : Int) := by
  have hz0 : (0 : Int) ≤ z.toInt := by
    have := Int32.not_lt.mp hz
    simpa using Int32.le_iff_toInt_le.mp this
  show z.toInt = ((z.toInt.toNat : Nat) : Int)
  omega
theorem hp_Ws.putL {H1 : Heap} {a t : Nat} {x x' : hp_C} {l1 : List Loc} (w : hp_Ws G B h s H locs) (ha : h a = some (t, x)) (ht : t ≠ 0) (he : hp_at G a x' H1) (z : H1.size = H.size) (oq : ∀ q : Nat, q ≠ a → H1[q]? = H[q]?) (hl1 : ∀ q ∈ l1, q.base = a) : hp_Ws G B (hp_up h a (t, x')) s H1 (locs ++ l1) := by
  have hB : B ≤ a := (w.2.2.2.2 a t x ha).2.1 ht
  refine ⟨w.1, w.2.1, w.2.2.1, ⟨by rw [z]; exact w.2.2.2.1.1, fun q g1 g2 => by rw [oq q (fun e => g2 (by rw [e]; exact hB))]; exact w.2.2.2.1.2.1 q g1 g2, fun q hq => ?_⟩, w.2.2.2.2.up ha he oq⟩
  rcases List.mem_append.mp hq with h | h
  · exact w.2.2.2.1.2.2 q h
  · show B ≤ q.base
    rw [hl1 q h]
    exact hB
theorem ro_copyb (X : CallFix p m c cc nL s args lw_all own) (w : hp_Ws G B h s H locs) (hl : hp_L ls nL L) {index : Nat} (hlink : Cond.methodLink own index arraycopyName ∈ lw_all) (hdg : decode cc pc = .ok (.invokestatic index, 3)) {a0 a t0 t n0 n1 : Nat} {f g : Nat → Int32} (ha0 : h a0 = some (t0, hp_ab G n0 f)) (ha1 : h a = some (t, hp_ab G n1 g)) (ht : t ≠ 0)
    {sp dp n : Int32} (h1 : ¬ sp < 0) (h2 : ¬ dp < 0) (h3 : ¬ n < 0) (h4 : sp.toNatClampNeg + n.toNatClampNeg ≤ n0) (h5 : dp.toNatClampNeg + n.toNatClampNeg ≤ n1) (hfit : ∀ i, i < n.toNatClampNeg → fits .byte (.int (f (sp.toNatClampNeg + i))) = true) (hfr : 1 ≤ R.frames) (hlo : 4000 ≤ R.locals) (hroom : (rest.map fun v => v.category).sum ≤ 8)
    (kk : ∀ (H1 : Heap) (locs1 : List Loc), hp_Ws G B (hp_up h a (t, hp_ab G n1 (va_cpy f g sp.toNatClampNeg dp.toNatClampNeg n.toNatClampNeg))) s H1 locs1 → W p l e R s m args below meth c H1 locs1 cells slots Q (F0 m (pc + 3) ls rest)) : W p l e R s m args below meth c H locs cells slots Q (F0 m pc ls (.int n :: .int dp :: .ref a :: .int sp :: .ref a0 :: rest)) := by
  intro T hT X9
  have hc0 : H[a0]? = some (vp_cell (G.2 2) (n0, .inl f)) := (w.2.2.2.2 a0 t0 _ ha0).2.2
  obtain ⟨-, k0, hk0, cm0, hkk0⟩ := (w.1.1.2 2 _ rfl).1 n0 (fun j => .int (f j))
  have hs6 : ∀ q, (vp_cell (G.2 2) (n0, .inl f)).vm ≠ .statics q := fun _ h => by cases h
  have hs3 : (vp_cell (G.2 2) (n0, .inl f)).vm ≠ .unknown := fun h => by cases h
  have hs4 : ((vp_cell (G.2 2) (n0, .inl f)).slots.size) = n0 := arrV_size _ _ _
  have hs5 : ∀ j, j < n0 → (vp_cell (G.2 2) (n0, .inl f)).slots[j]? = some (.int (f j)) := fun j hj => arrV_read _ _ hj
  have hc1 : H[a]? = some (vp_cell (G.2 2) (n1, .inl g)) := (w.2.2.2.2 a t _ ha1).2.2
  obtain ⟨-, k1, hk1, cm1, hkk1⟩ := (w.1.1.2 2 _ rfl).1 n1 (fun j => .int (g j))
  have hw : nativeFrameWords "java/lang/System" "arraycopy" 5 ≤ 100 := by decide
  obtain ⟨vm', X', step⟩ := X9.arraycopy X.1 X.2.2.2.1 (X.2.2.2.2 _ hlink) (X.2.2.2.2 _ q382) (X.2.2.2.2 _ q381) (X.2.2.2.2 _ q53) (src := a0) (dst := a) (cs := (vp_cell (G.2 2) (n0, .inl f))) (cd := vp_cell (G.2 2) (n1, .inl g)) (srcPos := sp) (destPos := dp) (n := n) (by rw [hT]; exact hc0) (by rw [hT]; exact hc1)
    hs6 (fun _ h => by cases h) hs3 (fun h => by cases h) hk0 hk1 hkk0 hkk1 (by simp [refKind]) h1 h2 h3
    (by rw [hp_nn h1, hp_nn h3, hs4]; omega)
    (by rw [hp_nn h2, hp_nn h3]; show ¬ _ > ((arrV _ n1 (fun j => .int (g j))).slots.size : Int); rw [arrV_size]; omega)
    (fun vm₁ hal i hi => by
      have e : ((vp_cell (G.2 2) (n0, .inl f))).slots.getD (sp.toNatClampNeg + i) .null = .int (f (sp.toNatClampNeg + i)) := by
        rw [Array.getD_eq_getD_getElem?, hs5 _ (by omega)]
        rfl
      rw [e]
      exact ⟨hfit i hi, trivial⟩)
    (g := F0 m pc ls (.int n :: .int dp :: .ref a :: .int sp :: .ref a0 :: rest)) rfl (by rw [X.2.2.1]; exact hl.1) (rest := rest) rfl (by rw [X.2.1]; exact hdg) hfr (by show 2 * 0 + _ + _ ≤ _; omega)
  have e1 : copied ((vp_cell (G.2 2) (n0, .inl f))) (vp_cell (G.2 2) (n1, .inl g)) sp dp n = vp_cell (G.2 2) (n1, .inl (va_cpy f g sp.toNatClampNeg dp.toNatClampNeg n.toNatClampNeg)) := by
    exact va_copied (fun z => .int z) _ _ f g h4
  rw [e1] at X' step
  have hlt : a < H.size := (Array.getElem?_eq_some_iff.mp hc1).1
  have hheap : ((T.setVm vm').setCell a (vp_cell (G.2 2) (n1, .inl (va_cpy f g sp.toNatClampNeg dp.toNatClampNeg n.toNatClampNeg)))).heap = H.setIfInBounds a (vp_cell (G.2 2) (n1, .inl (va_cpy f g sp.toNatClampNeg dp.toNatClampNeg n.toNatClampNeg))) := by rw [← hT]; rfl
  obtain ⟨t9, a1, b1⟩ := kk _ _ (w.putL ha1 ht (show (H.setIfInBounds a _)[a]? = some _ by simp [Array.getElem?_setIfInBounds, hlt]) (by simp) (fun q hq => by simp [Array.getElem?_setIfInBounds, Ne.symm hq]) (fun q hq => by
      obtain ⟨z, -, hz⟩ := List.mem_map.mp hq
      rw [← hz])) _ hheap X'
  exact ⟨t9, step t9 a1, b1⟩
theorem ro_copybc (X : CallFix p m c cc nL s args lw_all own) (w : hp_Ws G B h s H locs) (hl : hp_L ls nL L) {index : Nat} (hlink : Cond.methodLink own index arraycopyName ∈ lw_all) (hdg : decode cc pc = .ok (.invokestatic index, 3)) {a0 a t0 t n0 n1 : Nat} {f g : Nat → Int32} (ha0 : h a0 = some (t0, hp_ca 2 n0 (fun j => .int (f j)))) (ha1 : h a = some (t, hp_ab G n1 g)) (ht : t ≠ 0)
    {sp dp n : Int32} (h1 : ¬ sp < 0) (h2 : ¬ dp < 0) (h3 : ¬ n < 0) (h4 : sp.toNatClampNeg + n.toNatClampNeg ≤ n0) (h5 : dp.toNatClampNeg + n.toNatClampNeg ≤ n1) (hfit : ∀ i, i < n.toNatClampNeg → fits .byte (.int (f (sp.toNatClampNeg + i))) = true) (hfr : 1 ≤ R.frames) (hlo : 4000 ≤ R.locals) (hroom : (rest.map fun v => v.category).sum ≤ 8)
    (kk : ∀ (H1 : Heap) (locs1 : List Loc), hp_Ws G B (hp_up h a (t, hp_ab G n1 (va_cpy f g sp.toNatClampNeg dp.toNatClampNeg n.toNatClampNeg))) s H1 locs1 → W p l e R s m args below meth c H1 locs1 cells slots Q (F0 m (pc + 3) ls rest)) : W p l e R s m args below meth c H locs cells slots Q (F0 m pc ls (.int n :: .int dp :: .ref a :: .int sp :: .ref a0 :: rest)) := by
  intro T hT X9
  obtain ⟨scr, hc0, hv1, hs3, hcl, hs4, hs5⟩ := (w.2.2.2.2 a0 t0 _ ha0).2.2
  obtain ⟨-, k0, hk0', cm0, hkk0⟩ := (w.1.1.2 2 _ rfl).1 n0 (fun j => .int (f j))
  have hk0 : s.vm.classes[scr.cls]? = some k0 := by rw [hcl]; exact hk0'
  have hs4 : scr.slots.size = n0 := hs4
  have hs5 : ∀ j, j < n0 → scr.slots[j]? = some (.int (f j)) := hs5
  have hs6 : ∀ q, scr.vm ≠ .statics q := fun q hq => by rw [hq] at hv1; cases hv1
  have hc1 : H[a]? = some (vp_cell (G.2 2) (n1, .inl g)) := (w.2.2.2.2 a t _ ha1).2.2
  obtain ⟨-, k1, hk1, cm1, hkk1⟩ := (w.1.1.2 2 _ rfl).1 n1 (fun j => .int (g j))
  have hw : nativeFrameWords "java/lang/System" "arraycopy" 5 ≤ 100 := by decide
  obtain ⟨vm', X', step⟩ := X9.arraycopy X.1 X.2.2.2.1 (X.2.2.2.2 _ hlink) (X.2.2.2.2 _ q382) (X.2.2.2.2 _ q381) (X.2.2.2.2 _ q53) (src := a0) (dst := a) (cs := scr) (cd := vp_cell (G.2 2) (n1, .inl g)) (srcPos := sp) (destPos := dp) (n := n) (by rw [hT]; exact hc0) (by rw [hT]; exact hc1)
    hs6 (fun _ h => by cases h) hs3 (fun h => by cases h) hk0 hk1 hkk0 hkk1 (by simp [refKind]) h1 h2 h3
    (by rw [hp_nn h1, hp_nn h3, hs4]; omega)
    (by rw [hp_nn h2, hp_nn h3]; show ¬ _ > ((arrV _ n1 (fun j => .int (g j))).slots.size : Int); rw [arrV_size]; omega)
    (fun vm₁ hal i hi => by
      have e : (scr).slots.getD (sp.toNatClampNeg + i) .null = .int (f (sp.toNatClampNeg + i)) := by
        rw [Array.getD_eq_getD_getElem?, hs5 _ (by omega)]
        rfl
      rw [e]
      exact ⟨hfit i hi, trivial⟩)
    (g := F0 m pc ls (.int n :: .int dp :: .ref a :: .int sp :: .ref a0 :: rest)) rfl (by rw [X.2.2.1]; exact hl.1) (rest := rest) rfl (by rw [X.2.1]; exact hdg) hfr (by show 2 * 0 + _ + _ ≤ _; omega)
  have e1 : copied (scr) (vp_cell (G.2 2) (n1, .inl g)) sp dp n = vp_cell (G.2 2) (n1, .inl (va_cpy f g sp.toNatClampNeg dp.toNatClampNeg n.toNatClampNeg)) := by
    exact va_copiedX (fun z => .int z) scr _ f g hs5 h4
  rw [e1] at X' step
  have hlt : a < H.size := (Array.getElem?_eq_some_iff.mp hc1).1
  have hheap : ((T.setVm vm').setCell a (vp_cell (G.2 2) (n1, .inl (va_cpy f g sp.toNatClampNeg dp.toNatClampNeg n.toNatClampNeg)))).heap = H.setIfInBounds a (vp_cell (G.2 2) (n1, .inl (va_cpy f g sp.toNatClampNeg dp.toNatClampNeg n.toNatClampNeg))) := by rw [← hT]; rfl
  obtain ⟨t9, a1, b1⟩ := kk _ _ (w.putL ha1 ht (show (H.setIfInBounds a _)[a]? = some _ by simp [Array.getElem?_setIfInBounds, hlt]) (by simp) (fun q hq => by simp [Array.getElem?_setIfInBounds, Ne.symm hq]) (fun q hq => by
      obtain ⟨z, -, hz⟩ := List.mem_map.mp hq
      rw [← hz])) _ hheap X'
  exact ⟨t9, step t9 a1, b1⟩
theorem ro_copyq (X : CallFix p m c cc nL s args lw_all own) (w : hp_Ws G B h s H locs) (hl : hp_L ls nL L) {index : Nat} (hlink : Cond.methodLink own index arraycopyName ∈ lw_all) (hdg : decode cc pc = .ok (.invokestatic index, 3)) {a0 a t0 t n0 n1 : Nat} {f g : Nat → Option Nat} (ha0 : h a0 = some (t0, hp_aq G 3 n0 f)) (ha1 : h a = some (t, hp_aq G 3 n1 g)) (ht : t ≠ 0)
    {sp dp n : Int32} (h1 : ¬ sp < 0) (h2 : ¬ dp < 0) (h3 : ¬ n < 0) (h4 : sp.toNatClampNeg + n.toNatClampNeg ≤ n0) (h5 : dp.toNatClampNeg + n.toNatClampNeg ≤ n1) (hfit : ∀ i, i < n.toNatClampNeg → ∀ y : Nat, f (sp.toNatClampNeg + i) = some y → va_Any "java/lang/Object" s H y) (hfr : 1 ≤ R.frames) (hlo : 4000 ≤ R.locals) (hroom : (rest.map fun v => v.category).sum ≤ 8)
    (kk : ∀ (H1 : Heap) (locs1 : List Loc), hp_Ws G B (hp_up h a (t, hp_aq G 3 n1 (va_cpy f g sp.toNatClampNeg dp.toNatClampNeg n.toNatClampNeg))) s H1 locs1 → W p l e R s m args below meth c H1 locs1 cells slots Q (F0 m (pc + 3) ls rest)) : W p l e R s m args below meth c H locs cells slots Q (F0 m pc ls (.int n :: .int dp :: .ref a :: .int sp :: .ref a0 :: rest)) := by
  intro T hT X9
  have hc0 : H[a0]? = some (vp_cell (G.2 3) (n0, .inr (.inr (.inr (.inr f))))) := (w.2.2.2.2 a0 t0 _ ha0).2.2
  obtain ⟨-, k0, hk0, cm0, hkk0⟩ := (w.1.1.2 3 _ rfl).1 n0 (fun j => va_rf (f j))
  have hs6 : ∀ q, (vp_cell (G.2 3) (n0, .inr (.inr (.inr (.inr f))))).vm ≠ .statics q := fun _ h => by cases h
  have hs3 : (vp_cell (G.2 3) (n0, .inr (.inr (.inr (.inr f))))).vm ≠ .unknown := fun h => by cases h
  have hs4 : ((vp_cell (G.2 3) (n0, .inr (.inr (.inr (.inr f))))).slots.size) = n0 := arrV_size _ _ _
  have hs5 : ∀ j, j < n0 → (vp_cell (G.2 3) (n0, .inr (.inr (.inr (.inr f))))).slots[j]? = some (va_rf (f j)) := fun j hj => arrV_read _ _ hj
  have hc1 : H[a]? = some (vp_cell (G.2 3) (n1, .inr (.inr (.inr (.inr g))))) := (w.2.2.2.2 a t _ ha1).2.2
  obtain ⟨-, k1, hk1, cm1, hkk1⟩ := (w.1.1.2 3 _ rfl).1 n1 (fun j => va_rf (g j))
  have hw : nativeFrameWords "java/lang/System" "arraycopy" 5 ≤ 100 := by decide
  obtain ⟨vm', X', step⟩ := X9.arraycopy X.1 X.2.2.2.1 (X.2.2.2.2 _ hlink) (X.2.2.2.2 _ q382) (X.2.2.2.2 _ q381) (X.2.2.2.2 _ q53) (src := a0) (dst := a) (cs := (vp_cell (G.2 3) (n0, .inr (.inr (.inr (.inr f)))))) (cd := vp_cell (G.2 3) (n1, .inr (.inr (.inr (.inr g))))) (srcPos := sp) (destPos := dp) (n := n) (by rw [hT]; exact hc0) (by rw [hT]; exact hc1)
    hs6 (fun _ h => by cases h) hs3 (fun h => by cases h) hk0 hk1 hkk0 hkk1 rfl h1 h2 h3
    (by rw [hp_nn h1, hp_nn h3, hs4]; omega)
    (by rw [hp_nn h2, hp_nn h3]; show ¬ _ > ((arrV _ n1 (fun j => va_rf (g j))).slots.size : Int); rw [arrV_size]; omega)
    (fun vm₁ hal i hi => by
      have e : ((vp_cell (G.2 3) (n0, .inr (.inr (.inr (.inr f)))))).slots.getD (sp.toNatClampNeg + i) .null = va_rf (f (sp.toNatClampNeg + i)) := by
        rw [Array.getD_eq_getD_getElem?, hs5 _ (by omega)]
        rfl
      rw [e]
      cases hy : f (sp.toNatClampNeg + i) with
      | none => exact ⟨rfl, trivial⟩
      | some y =>
        obtain ⟨cellV, g1, g2, ⟨kC, hkC⟩, hasg⟩ := hfit i hi y hy
        obtain ⟨kA, comp, r1, r2, r3, -⟩ := (w.1.1.2 3 _ rfl).2
        cases hk1.symm.trans r1
        cases hkk1.symm.trans r2
        obtain ⟨kE, hkE, -⟩ := Vm.findClass_spec r3
        obtain ⟨kC', hkC', -⟩ := hal.2.2 _ _ hkC
        obtain ⟨kE', hkE', -⟩ := hal.2.2 _ _ hkE
        refine ⟨rfl, cellV, (show T.heap[y]? = some cellV by rw [hT]; exact g1), (fun q h => by rw [h] at g2; cases g2), ⟨kC', hkC'⟩, ?_, ?_⟩
        · exact ⟨kE', hkE'⟩
        · show vm₁.assignable _ _ = true
          rw [hal.assignable]
          exact hasg _ r3)
    (g := F0 m pc ls (.int n :: .int dp :: .ref a :: .int sp :: .ref a0 :: rest)) rfl (by rw [X.2.2.1]; exact hl.1) (rest := rest) rfl (by rw [X.2.1]; exact hdg) hfr (by show 2 * 0 + _ + _ ≤ _; omega)
  have e1 : copied ((vp_cell (G.2 3) (n0, .inr (.inr (.inr (.inr f)))))) (vp_cell (G.2 3) (n1, .inr (.inr (.inr (.inr g))))) sp dp n = vp_cell (G.2 3) (n1, .inr (.inr (.inr (.inr (va_cpy f g sp.toNatClampNeg dp.toNatClampNeg n.toNatClampNeg))))) := by
    rw [vp_cell_q, vp_cell_q, vp_cell_q]
    exact va_copied (fun z => va_rf z) _ _ f g h4
  rw [e1] at X' step
  have hlt : a < H.size := (Array.getElem?_eq_some_iff.mp hc1).1
  have hheap : ((T.setVm vm').setCell a (vp_cell (G.2 3) (n1, .inr (.inr (.inr (.inr (va_cpy f g sp.toNatClampNeg dp.toNatClampNeg n.toNatClampNeg))))))).heap = H.setIfInBounds a (vp_cell (G.2 3) (n1, .inr (.inr (.inr (.inr (va_cpy f g sp.toNatClampNeg dp.toNatClampNeg n.toNatClampNeg)))))) := by rw [← hT]; rfl
  obtain ⟨t9, a1, b1⟩ := kk _ _ (w.putL ha1 ht (show (H.setIfInBounds a _)[a]? = some _ by simp [Array.getElem?_setIfInBounds, hlt]) (by simp) (fun q hq => by simp [Array.getElem?_setIfInBounds, Ne.symm hq]) (fun q hq => by
      obtain ⟨z, -, hz⟩ := List.mem_map.mp hq
      rw [← hz])) _ hheap X'
  exact ⟨t9, step t9 a1, b1⟩
theorem ro_rPr (X : CallFix p m c cc nL s args lw_all own) (w : hp_Ws G B h s H locs) {y : MethodName} {bytes : ByteArray} {maxL n idx : Nat} {ret : Option FieldType} (hy : y ∈ hp_asb) (hyc : y.cls = "java/lang/AbstractStringBuilder") (hcode : Cond.code y bytes maxL ret ∈ lw_all) (hini : Cond.initialized y.cls ∈ lw_all) (hlink : Cond.methodLink own idx y ∈ lw_all) (hsame : Cond.sameMethod y.cls "java/lang/AbstractStringBuilder" y.name y.desc ∈ lw_all) (hinst : Cond.instanceMethod y ∈ lw_all) (hd : (parseMethodDescriptor y.desc).map (fun d => d.parameters.length) = some n)
    {t : Nat} {fs : List Value} (ha : h b = some (t, hp_ob 13 fs)) (hM : hp_M l G B y bytes maxL ret d mc ms (.ref b :: av) h post) (hn : av.length = n) (hst : st = av.reverse ++ .ref b :: rest) (hl : hp_L ls nL L) (hR : hp_ro R cells slots d mc ms maxL) (hroom : (rest.map fun v => v.category).sum ≤ 8) (hdg : decode cc pc = .ok (.invokevirtual idx, 3)) : va_Run p l e R s m args below meth c H locs cells slots mc ms (F0 m pc ls st) rest (hp_Q G B post (Value.ref b :: av).toArray) (fun q => B ≤ q) := by
  have hts := X.2.2.2.2
  have hyo : (⟨"java/lang/AbstractStringBuilder", y.name, y.desc⟩ : MethodName) = y := by rw [← hyc]
  have cw : va_CU R s args own "java/lang/StringBuilder" "java/lang/AbstractStringBuilder" idx y y bytes maxL ret (ws_ y bytes maxL ret) (hp_rm d mc ms) mc ms n := by
    refine ⟨⟨rfl, rfl, hR.1.1, hR.1.2, pay_in hts (lw_meth hcode), List.mem_cons_self⟩, hts _ hcode, hts _ hini, by decide, fun sig h => ?_, hts _ hlink, hts _ hsame, ?_, va_Nw.use rfl (w.1.2.2.2.2.2.2.2.2.2.2 y hy), hts _ hinst⟩
    · have h2 := hd
      rw [h] at h2
      exact (Option.some.inj h2).symm
    · rw [hyo]
      exact va_Decl.of (hts _ hinst) (hts _ hcode)
  exact va_runU (C := "java/lang/StringBuilder") (owner := "java/lang/AbstractStringBuilder") (x := y) (As := av) (rest := rest) X hM cw ⟨hp_P.blind, hp_recv (ci := 13) w rfl ha, fun U hU hW => ⟨rfl, w.at hU hW⟩⟩ rfl hn hl.1 hst (lv_room hroom) hdg hR.2
theorem cs_J24_100 (X : CallFix p m c cc nL s args lw_all RJ24) (w : hp_Ws G B h s H locs) {t : Nat} {fs : List Value} (ha : h b = some (t, hp_ob 13 fs)) (hM : hp_M l G B yJ24_ensureCapacityInternal cJ24_ensureCapacityInternal 3 none d mc ms (.ref b :: av) h post) (hn : av.length = 1) (hst : st = av.reverse ++ .ref b :: rest) (hl : hp_L ls nL L) (hR : hp_ro R cells slots d mc ms 3) (hroom : (rest.map fun v => v.category).sum ≤ 8) (hdg : decode cc pc = .ok (.invokevirtual 100, 3)) : va_Run p l e R s m args below meth c H locs cells slots mc ms (F0 m pc ls st) rest (hp_Q G B post (Value.ref b :: av).toArray) (fun q => B ≤ q) := ro_rPr X w (List.mem_of_getElem? (i := 0) rfl) rfl q799 q71 q796 q2065 q798 (by decide +kernel) ha hM hn hst hl hR hroom hdg
theorem cs_J24_104 (X : CallFix p m c cc nL s args lw_all RJ24) (w : hp_Ws G B h s H locs) {t : Nat} {fs : List Value} (ha : h b = some (t, hp_ob 13 fs)) (hM : hp_M l G B yJ24_newCapacity cJ24_newCapacity 6 (some .int) d mc ms (.ref b :: av) h post) (hn : av.length = 1) (hst : st = av.reverse ++ .ref b :: rest) (hl : hp_L ls nL L) (hR : hp_ro R cells slots d mc ms 6) (hroom : (rest.map fun v => v.category).sum ≤ 8) (hdg : decode cc pc = .ok (.invokevirtual 104, 3)) : va_Run p l e R s m args below meth c H locs cells slots mc ms (F0 m pc ls st) rest (hp_Q G B post (Value.ref b :: av).toArray) (fun q => B ≤ q) := ro_rPr X w (List.mem_of_getElem? (i := 1) rfl) rfl q803 q71 q800 q2066 q802 (by decide +kernel) ha hM hn hst hl hR hroom hdg
theorem cs_J24_208 (X : CallFix p m c cc nL s args lw_all RJ24) (w : hp_Ws G B h s H locs) {t : Nat} {fs : List Value} (ha : h b = some (t, hp_ob 13 fs)) (hM : hp_M l G B yJ24_putStringAt cJ24_putStringAt 3 none d mc ms (.ref b :: av) h post) (hn : av.length = 2) (hst : st = av.reverse ++ .ref b :: rest) (hl : hp_L ls nL L) (hR : hp_ro R cells slots d mc ms 3) (hroom : (rest.map fun v => v.category).sum ≤ 8) (hdg : decode cc pc = .ok (.invokevirtual 208, 3)) : va_Run p l e R s m args below meth c H locs cells slots mc ms (F0 m pc ls st) rest (hp_Q G B post (Value.ref b :: av).toArray) (fun q => B ≤ q) := ro_rPr X w (List.mem_of_getElem? (i := 2) rfl) rfl q849 q71 q846 q2067 q848 (by decide +kernel) ha hM hn hst hl hR hroom hdg
theorem cs_J24_397 (X : CallFix p m c cc nL s args lw_all RJ24) (w : hp_Ws G B h s H locs) {t : Nat} {fs : List Value} (ha : h b = some (t, hp_ob 13 fs)) (hM : hp_M l G B yJ24_inflateIfNeededFor cJ24_inflateIfNeededFor 2 none d mc ms (.ref b :: av) h post) (hn : av.length = 1) (hst : st = av.reverse ++ .ref b :: rest) (hl : hp_L ls nL L) (hR : hp_ro R cells slots d mc ms 2) (hroom : (rest.map fun v => v.category).sum ≤ 8) (hdg : decode cc pc = .ok (.invokevirtual 397, 3)) : va_Run p l e R s m args below meth c H locs cells slots mc ms (F0 m pc ls st) rest (hp_Q G B post (Value.ref b :: av).toArray) (fun q => B ≤ q) := ro_rPr X w (List.mem_of_getElem? (i := 3) rfl) rfl q853 q71 q850 q2068 q852 (by decide +kernel) ha hM hn hst hl hR hroom hdg
end MORE
