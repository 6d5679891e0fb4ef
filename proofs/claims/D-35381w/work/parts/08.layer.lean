/-! THE LAYER: one abstract heap for the whole run. A cell has a tag (0: a constant of the start, below B; else made by the run, at B or above) and a content. -/
set_option maxRecDepth 100000
abbrev hp_G : Type := va_G × (Nat → Nat)
abbrev hp_C : Type := va_E ⊕ ((Nat × List Value) ⊕ ((Nat × List Value) ⊕ (Nat × Nat × (Nat → Value))))
abbrev hp_H : Type := Nat → Option (Nat × hp_C)
abbrev hp_ob (ci : Nat) (fs : List Value) : hp_C := Sum.inl (Sum.inr (ci, fs))
abbrev hp_ai (G : hp_G) (n : Nat) (f : Nat → Int32) : hp_C := Sum.inl (Sum.inl (G.2 0, n, Sum.inl f))
abbrev hp_al (G : hp_G) (n : Nat) (f : Nat → Int64) : hp_C := Sum.inl (Sum.inl (G.2 1, n, Sum.inr (Sum.inl f)))
abbrev hp_ab (G : hp_G) (n : Nat) (f : Nat → Int32) : hp_C := Sum.inl (Sum.inl (G.2 2, n, Sum.inl f))
abbrev hp_aq (G : hp_G) (k : Nat) (n : Nat) (f : Nat → Option Nat) : hp_C := Sum.inl (Sum.inl (G.2 k, n, Sum.inr (Sum.inr (Sum.inr (Sum.inr f)))))
abbrev hp_la (j : Nat) (vs : List Value) : hp_C := Sum.inr (Sum.inl (j, vs))
abbrev hp_co (ci : Nat) (fs : List Value) : hp_C := Sum.inr (Sum.inr (Sum.inl (ci, fs)))
abbrev hp_ca (k n : Nat) (f : Nat → Value) : hp_C := Sum.inr (Sum.inr (Sum.inr (k, n, f)))
/-- the classes: 0 SkinLeague, 1 Shelf, 2 SkinLeagueModel, 3 Player, 4 Match, 5 Spot, 6 Skin, 7 Sale, 8 ArrayList, 9 LinkedHashMap, 10 LinkedHashMap$Entry, 11 LinkedValues, 12 LinkedValueIterator, 13 StringBuilder, 14 String -/
def hp_cl : List vw_C := [(RX1, TX1, 6), (RX2, TX2, 1), (RX3, TX3, 30), (RX4, TX4, 4), (RX5, TX5, 5), (RX6, TX6, 2), (RX9, TX9, 7), (RX10, TX10, 4), (RJ2, TJ2, 3), (RJ5, TJ5, 12), (RJ27, TJ27, 6), (RJ31, TJ31, 2), (RJ34, TJ34, 5), (RJ25, TJ25, 4), (RJ15, TJ15, 4)]
/-- array classes: 0 int, 1 long, 2 byte, 3 Object, 4 HashMap$Node -/
def hp_ty (G : hp_G) : List (ClassId × FieldType) := [(G.2 0, .int), (G.2 1, .long), (G.2 2, .byte), (G.2 3, .object "java/lang/Object"), (G.2 4, .object "java/util/HashMap$Node")]
def hp_at (G : hp_G) (a : Nat) (c : hp_C) (H : Heap) : Prop := match c with
  | .inl e => va_at G.1 hp_cl (a, e) H
  | .inr (.inl x) => ∃ cell : Cell, H[a]? = some cell ∧ cell.cls = G.2 (40 + x.1) ∧ cell.vm = .none ∧ cell.slots = x.2.toArray
  | .inr (.inr (.inl x)) => ∃ (cell : Cell) (r : vw_C), H[a]? = some cell ∧ cell.vm.isStatics = false ∧ cell.vm ≠ .unknown ∧ cell.cls = G.1.1 x.1 ∧ hp_cl[x.1]? = some r ∧ ∀ k, k < r.2.2 → cell.slots[G.1.2 x.1 k]? = some (vp_V x.2 k)
  | .inr (.inr (.inr x)) => ∃ cell : Cell, H[a]? = some cell ∧ cell.vm.isStatics = false ∧ cell.vm ≠ .unknown ∧ cell.cls = G.2 x.1 ∧ cell.slots.size = x.2.1 ∧ ∀ j, j < x.2.1 → cell.slots[j]? = some (x.2.2 j)
theorem hp_at.kept {G : hp_G} {a : Nat} {c : hp_C} {H H1 : Heap} (h : hp_at G a c H) (hq : H1[a]? = H[a]?) : hp_at G a c H1 := by
  match c, h with
  | .inl e, h => exact va_at.kept (q := (a, e)) h hq
  | .inr (.inl x), h =>
    obtain ⟨cell, h1, h2⟩ := h
    exact ⟨cell, by rw [hq]; exact h1, h2⟩
  | .inr (.inr (.inl x)), h =>
    obtain ⟨cell, r, h1, h2⟩ := h
    exact ⟨cell, r, by rw [hq]; exact h1, h2⟩
  | .inr (.inr (.inr x)), h =>
    obtain ⟨cell, h1, h2⟩ := h
    exact ⟨cell, by rw [hq]; exact h1, h2⟩
theorem hp_at.lt {G : hp_G} {a : Nat} {c : hp_C} {H : Heap} (h : hp_at G a c H) : a < H.size := by
  match c, h with
  | .inl e, h => exact va_at.lt (q := (a, e)) h
  | .inr (.inl x), h =>
    obtain ⟨cell, h1, h2⟩ := h
    exact (Array.getElem?_eq_some_iff.mp h1).1
  | .inr (.inr (.inl x)), h =>
    obtain ⟨cell, r, h1, h2⟩ := h
    exact (Array.getElem?_eq_some_iff.mp h1).1
  | .inr (.inr (.inr x)), h =>
    obtain ⟨cell, h1, h2⟩ := h
    exact (Array.getElem?_eq_some_iff.mp h1).1
/-- one cell of the abstract heap changed -/
def hp_up (h : hp_H) (a : Nat) (x : Nat × hp_C) : hp_H := fun q => if q = a then some x else h q
theorem hp_up_s (h : hp_H) (a : Nat) (x : Nat × hp_C) : hp_up h a x a = some x := if_pos rfl
theorem hp_up_n {h : hp_H} {a q : Nat} {x : Nat × hp_C} (hq : q ≠ a) : hp_up h a x q = h q := if_neg hq
theorem hp_ne {h : hp_H} {a b : Nat} {x y : Nat × hp_C} (ha : h a = some x) (hb : h b = some y) (hn : x ≠ y) : a ≠ b := fun e => hn (Option.some.inj (ha.symm.trans (by rw [e]; exact hb)))
theorem hp_ne_t {h : hp_H} {a b t t' : Nat} {x y : hp_C} (ha : h a = some (t, x)) (hb : h b = some (t', y)) (hn : t ≠ t') : a ≠ b := hp_ne ha hb (fun e => hn (congrArg Prod.fst e))
theorem hp_ne_c {h : hp_H} {a b t t' ci cj : Nat} {x y : List Value} (ha : h a = some (t, hp_ob ci x)) (hb : h b = some (t', hp_ob cj y)) (hn : ci ≠ cj) : a ≠ b := hp_ne ha hb (fun e => by cases e; exact hn rfl)
theorem hp_ne_f {h : hp_H} {a b : Nat} {x : Nat × hp_C} (ha : h a = some x) (hb : h b = none) : a ≠ b := fun e => by rw [e, hb] at ha; cases ha
theorem hp_up_o {h : hp_H} {a b : Nat} {x y z : Nat × hp_C} (hb : h b = some y) (ha : h a = some z) (hn : y ≠ z) : hp_up h a x b = some y := (hp_up_n (hp_ne hb ha hn)).trans hb
theorem hp_up_f {h : hp_H} {a b : Nat} {x y : Nat × hp_C} (hb : h b = some y) (ha : h a = none) : hp_up h a x b = some y := (hp_up_n (hp_ne_f hb ha)).trans hb
/-- what h has, h' has: h' says more -/
def hp_le (h h' : hp_H) : Prop := ∀ a x, h a = some x → h' a = some x
theorem hp_le.rf (h : hp_H) : hp_le h h := fun _ _ e => e
theorem hp_le.tr {h h1 h2 : hp_H} (a : hp_le h h1) (b : hp_le h1 h2) : hp_le h h2 := fun q x e => b q x (a q x e)
theorem hp_le.new {h : hp_H} {a : Nat} {x : Nat × hp_C} (ha : h a = none) : hp_le h (hp_up h a x) := fun q y e => hp_up_f e ha
/-- cells of other tags than P stay -/
def hp_fr (P : Nat → Prop) (h h' : hp_H) : Prop := ∀ a t x, h a = some (t, x) → ¬ P t → h' a = some (t, x)
theorem hp_fr.rf (P : Nat → Prop) (h : hp_H) : hp_fr P h h := fun _ _ _ e _ => e
theorem hp_fr.tr {P : Nat → Prop} {h h1 h2 : hp_H} (a : hp_fr P h h1) (b : hp_fr P h1 h2) : hp_fr P h h2 := fun q t x e n => b q t x (a q t x e n) n
theorem hp_fr.of_le {P : Nat → Prop} {h h1 : hp_H} (a : hp_le h h1) : hp_fr P h h1 := fun q t x e _ => a q (t, x) e
theorem hp_fr.up {P : Nat → Prop} {h : hp_H} {a t : Nat} {c : hp_C} {x : Nat × hp_C} (ha : h a = some (t, c)) (hp : P t) : hp_fr P h (hp_up h a x) := fun q t' y e n => (hp_up_n (fun z => n (by rw [z, ha] at e; cases e; exact hp))).trans e
theorem hp_fr.weaken {P P' : Nat → Prop} {h h1 : hp_H} (a : hp_fr P h h1) (hp : ∀ t, P t → P' t) : hp_fr P' h h1 := fun q t x e n => a q t x e (fun z => n (hp t z))
def hp_Hp (G : hp_G) (B : Nat) (h : hp_H) (H : Heap) : Prop := ∀ a t c, h a = some (t, c) → (t = 0 → a < B) ∧ (t ≠ 0 → B ≤ a) ∧ hp_at G a c H
theorem hp_Hp.le {G : hp_G} {B : Nat} {h h' : hp_H} {H : Heap} (hw : hp_Hp G B h' H) (hl : hp_le h h') : hp_Hp G B h H := fun a t c e => hw a t c (hl a _ e)
/-- after one write at a cell of ours -/
theorem hp_Hp.up {G : hp_G} {B : Nat} {h : hp_H} {H H1 : Heap} {a t : Nat} {c c' : hp_C} (hw : hp_Hp G B h H) (ha : h a = some (t, c)) (he : hp_at G a c' H1) (oq : ∀ q : Nat, q ≠ a → H1[q]? = H[q]?) : hp_Hp G B (hp_up h a (t, c')) H1 := by
  intro q t' d e
  by_cases hq : q = a
  · subst hq
    rw [hp_up_s] at e
    cases e
    exact ⟨(hw q t c ha).1, (hw q t c ha).2.1, he⟩
  · rw [hp_up_n hq] at e
    obtain ⟨h1, h2, h3⟩ := hw q t' d e
    exact ⟨h1, h2, h3.kept (oq q hq)⟩
theorem hp_Hp.fresh {G : hp_G} {B : Nat} {h : hp_H} {H : Heap} (hw : hp_Hp G B h H) : h H.size = none := by
  cases e : h H.size with
  | none => rfl
  | some x =>
    obtain ⟨t, c⟩ := x
    exact absurd (hw _ t c e).2.2.lt (Nat.lt_irrefl _)
/-- after one cell more -/
theorem hp_Hp.new {G : hp_G} {B t : Nat} {h : hp_H} {H H1 : Heap} {c : hp_C} (hw : hp_Hp G B h H) (hB : B ≤ H.size) (ht : t ≠ 0) (he : hp_at G H.size c H1) (oq : ∀ q : Nat, q < H.size → H1[q]? = H[q]?) : hp_Hp G B (hp_up h H.size (t, c)) H1 := by
  intro q t' d e
  by_cases hq : q = H.size
  · subst hq
    rw [hp_up_s] at e
    cases e
    exact ⟨fun z => absurd z ht, fun _ => hB, he⟩
  · rw [hp_up_n hq] at e
    obtain ⟨h1, h2, h3⟩ := hw q t' d e
    exact ⟨h1, h2, h3.kept (oq q h3.lt)⟩
/-- words of the tables that a contract carries -/
def hp_rd (w : Cond) : Bool := match w with
  | .fieldLinkNest _ _ _ _ _ _ => true
  | .methodLinkNest _ _ _ _ => true
  | .castable _ _ => true
  | .declares _ => true
  | _ => false
theorem hp_rd_on {w : Cond} (h : hp_rd w = true) : w.onTables = true := by
  cases w <;> first | rfl | cases h
theorem hp_rd_warm {w : Cond} (h : hp_rd w = true) {s U : State} (hW : s.WarmedH U.vm) (hZ : va_Nw w s) : va_Nw w U := by
  cases w <;> first | exact va_Nw.warmF hW hZ | exact va_Nw.warmM hW hZ | exact va_Nw.warmC hW hZ | exact va_Nw.warmD hW hZ | cases h
/-- calls through an interface: receiver's class, the interface's method, the method that runs -/
def hp_fws : List (String × MethodName × MethodName) := [
  ("java/util/ArrayList", ⟨"java/util/List", "size", "()I"⟩, ⟨"java/util/ArrayList", "size", "()I"⟩),
  ("java/util/ArrayList", ⟨"java/util/List", "get", "(I)Ljava/lang/Object;"⟩, ⟨"java/util/ArrayList", "get", "(I)Ljava/lang/Object;"⟩),
  ("java/util/LinkedHashMap$LinkedValues", ⟨"java/util/Collection", "iterator", "()Ljava/util/Iterator;"⟩, ⟨"java/util/LinkedHashMap$LinkedValues", "iterator", "()Ljava/util/Iterator;"⟩),
  ("java/util/LinkedHashMap$LinkedValueIterator", ⟨"java/util/Iterator", "hasNext", "()Z"⟩, ⟨"java/util/LinkedHashMap$LinkedHashIterator", "hasNext", "()Z"⟩),
  ("java/util/LinkedHashMap$LinkedValueIterator", ⟨"java/util/Iterator", "next", "()Ljava/lang/Object;"⟩, ⟨"java/util/LinkedHashMap$LinkedValueIterator", "next", "()Ljava/lang/Object;"⟩)]
theorem hp_fws_mh : ∀ z ∈ hp_fws, z.2.1.cls ≠ "java/lang/invoke/MethodHandle" ∧ z.2.1.cls ≠ "java/lang/invoke/VarHandle" := by decide +kernel
/-- the literals: class, entry, text; their addresses are G.2 (10 + i) -/
def hp_strs : List (String × Nat × String) := [("SkinLeague", 3, "there is none"), ("SkinLeague", 11, "out of range"), ("SkinLeague", 16, "not possible now"), ("SkinLeague$Thing", 20, ":"), ("SkinLeague$Spot", 25, "/"), ("SkinLeague$Skin", 87, "@"), ("java/lang/String", 1005, "null")]
/-- classes said not castable: subclass side first -/
def hp_ncs : List (String × String) := [("java/util/LinkedHashMap$Entry", "java/util/HashMap$TreeNode"), ("java/lang/IllegalArgumentException", "java/lang/IndexOutOfBoundsException"), ("java/lang/IllegalStateException", "java/lang/IndexOutOfBoundsException"), ("java/lang/IllegalStateException", "java/lang/IllegalArgumentException")]
/-- the lambdas: method, pc, entry, shape -/
def hp_tally (cap : List FieldType) (kind : Nat) (nm : String) (ps : List FieldType) : Lambda.Shape :=
  { iface := "SkinLeague$Tally", name := "of", sam := { parameters := [.object "SkinLeague$Match"], returnType := some .int }, captured := cap, kind := kind, implClass := "SkinLeague", implName := nm, implDesc := { parameters := ps, returnType := some .int }, implItf := false, inst := { parameters := [.object "SkinLeague$Match"], returnType := some .int } }
def hp_sites : List (MethodName × Nat × Nat × Lambda.Shape) := [
  (⟨"SkinLeague", "load", "(I)I"⟩, 3, 91, hp_tally [.object "SkinLeague", .int] 5 "lambda$load$0" [.int, .object "SkinLeague$Match"]),
  (⟨"SkinLeague", "points", "(II)I"⟩, 3, 133, hp_tally [.int, .int] 6 "lambda$points$1" [.int, .int, .object "SkinLeague$Match"]),
  (⟨"SkinLeague", "played", "(II)I"⟩, 3, 136, hp_tally [.int, .int] 6 "lambda$played$2" [.int, .int, .object "SkinLeague$Match"]),
  (⟨"SkinLeague", "proof", "(II)I"⟩, 46, 234, hp_tally [] 6 "lambda$proof$3" [.object "SkinLeague$Match"])]
/-- a lambda's site as linked: its class is G.2 (40 + j); the last one's object is G.2 44 -/
def hp_L1 (G : hp_G) (j : Nat) (z : MethodName × Nat × Nat × Lambda.Shape) (U : State) : Prop := ∃ (m : MethodId) (k : Class) (cf : ClassFile) (i0 p0 : Nat), U.methodNamed? z.1 = some m ∧ U.vm.classes[m.cls]? = some k ∧ k.cf = some cf ∧ Lambda.shapeOf? cf z.2.2.1 = some z.2.2.2 ∧
  (k.callSites.find? fun y => y.1 == m.idx && y.2.1 == z.2.1) = some (i0, p0, if j = 3 then .constant (G.2 44) else .makes (G.2 (40 + j))) ∧ Lambda.isMade { classPath := fun _ => none } U.vm m.cls z.2.2.2 (G.2 (40 + j)) = true ∧ U.lambdaCallable z.2.2.2 (G.2 (40 + j)) = true
theorem hp_L1.warm {G : hp_G} {j : Nat} {z : MethodName × Nat × Nat × Lambda.Shape} {s U : State} (hW : s.WarmedH U.vm) (h : hp_L1 G j z s) : hp_L1 G j z U := by
  obtain ⟨m, k, cf, i0, p0, hm, hk, hcf, hsh, hfind, hmade, hcall⟩ := h
  have hA := hW.alike
  obtain ⟨k', hk', he⟩ := hA.2.2 _ _ hk
  refine ⟨m, k', cf, i0, p0, ?_, hk', by rw [he]; exact hcf, hsh, by rw [he]; exact hfind, Lambda.isMade_warmer hW hmade, ?_⟩
  · have := State.methodNamed?_setVm (s := s) hA z.1
    rw [hm] at this
    exact this
  · simp only [State.lambdaCallable, hA.findClass, hA.assignable, hA.superclasses, hA.declaredIn] at hcall ⊢
    exact hcall
/-- methods of the builder's own superclass that are private -/
def hp_asb : List MethodName := [⟨"java/lang/AbstractStringBuilder", "ensureCapacityInternal", "(I)V"⟩, ⟨"java/lang/AbstractStringBuilder", "newCapacity", "(I)I"⟩, ⟨"java/lang/AbstractStringBuilder", "putStringAt", "(ILjava/lang/String;)V"⟩, ⟨"java/lang/AbstractStringBuilder", "inflateIfNeededFor", "(Ljava/lang/String;)V"⟩]
/-- what of the tables a contract carries -/
def hp_K (G : hp_G) (U : State) : Prop :=
  va_K G.1 hp_cl (hp_ty G) U ∧ (∀ w ∈ lw_tbl, hp_rd w = true → va_Nw w U) ∧ (∀ z ∈ hp_fws, va_Fw z.1 z.2.1 z.2.2 U) ∧ (va_AO "java/lang/Object" U ∧ va_AO "java/util/HashMap$Node" U) ∧
  (∀ (i : Nat) (z : String × Nat × String), hp_strs[i]? = some z → vk_R z.1 z.2.1 z.2.2 (G.2 (10 + i)) U) ∧ va_Mi "[Ljava/lang/Object;" (G.2 30) U ∧ va_Dc U ∧ (∀ z ∈ hp_ncs, va_Nc z.1 z.2 U) ∧
  (∀ (j : Nat) (z : MethodName × Nat × Nat × Lambda.Shape), hp_sites[j]? = some z → hp_L1 G j z U) ∧ (∀ o ok, U.vm.findClass "java/lang/Object" = some o → U.vm.classes[o]? = some ok → ok.instanceTypes.size = 0) ∧ (∀ y ∈ hp_asb, va_Nw (.selects "java/lang/StringBuilder" y y) U)
theorem hp_K.moved {G : hp_G} {s U : State} (hW : s.WarmedH U.vm) (h : hp_K G s) : hp_K G U := by
  obtain ⟨h1, h2, h3, h4, h5, h6, h7, h8, h9, h10, h11⟩ := h
  have hA := hW.alike
  refine ⟨va_K.moved hA h1, fun w hw hr => hp_rd_warm hr hW (h2 w hw hr), fun z hz => (h3 z hz).moved (hp_fws_mh z hz) hA, ⟨h4.1.moved hA, h4.2.moved hA⟩, fun i z hz => (h5 i z hz).warm hW, h6.moved hA, h7.moved hA, fun z hz => (h8 z hz).moved hA, fun j z hz => (h9 j z hz).warm hW, ?_, fun y hy => word_at hW (Or.inl rfl) (h11 y hy)⟩
  intro o ok ho hok
  rw [hA.findClass] at ho
  obtain ⟨c1, k1, hc1, hk1, -⟩ := (⟨o, (s.vm.classes[o]?), ho, rfl, trivial⟩ : ∃ (c : Nat) (k : Option Class), s.vm.findClass "java/lang/Object" = some c ∧ s.vm.classes[c]? = k ∧ True)
  cases ho.symm.trans hc1
  cases hx : s.vm.classes[o]? with
  | none => rw [hA.none hx] at hok; cases hok
  | some k0 =>
    obtain ⟨k', hk', he⟩ := hA.2.2 _ _ hx
    cases hok.symm.trans hk'
    rw [he]
    exact h10 o k0 ho hx
/-- statics that nobody writes -/
def hp_sts (G : hp_G) : List (String × String × String × Value) := [("java/util/ArrayList", "DEFAULTCAPACITY_EMPTY_ELEMENTDATA", "[Ljava/lang/Object;", .ref (G.2 20)), ("java/lang/String", "COMPACT_STRINGS", "Z", .int 1), ("java/lang/Integer", "DigitOnes", "[B", .ref (G.2 21)), ("java/lang/Integer", "DigitTens", "[B", .ref (G.2 22)), ("java/util/HashMap$TreeNode", "$assertionsDisabled", "Z", .int 1)]
def hp_S (G : hp_G) (B : Nat) (U : State) (H : Heap) : Prop := (∀ z ∈ hp_sts G, va_Z z.1 z.2.1 z.2.2.1 z.2.2.2 (fun q => B ≤ q) U H) ∧ vx_Zq Bundle.tN "UNASSIGNED_STACK" Bundle.steD (fun q => B ≤ q) U H ∧ vx_Zq Bundle.tN "SUPPRESSED_SENTINEL" Bundle.listD (fun q => B ≤ q) U H
theorem hp_S.moved {G : hp_G} {B : Nat} {s U : State} {H : Heap} (hA : s.vm.Alike U.vm) (h : hp_S G B s H) : hp_S G B U H := ⟨fun z hz => (h.1 z hz).moved hA, h.2.1.moved hA, h.2.2.moved hA⟩
theorem hp_S.kept {G : hp_G} {B : Nat} {U : State} {H H1 : Heap} (h : hp_S G B U H) (hq : ∀ a : Nat, a < H.size → ¬ B ≤ a → H1[a]? = H[a]?) : hp_S G B U H1 := ⟨fun z hz => (h.1 z hz).kept hq, h.2.1.kept hq, h.2.2.kept hq⟩
/-- the world at a contract's start, and at its end -/
def hp_W (G : hp_G) (B : Nat) (h : hp_H) (U : State) : Prop := hp_K G U ∧ hp_S G B U U.heap ∧ B ≤ U.heap.size ∧ hp_Hp G B h U.heap
/-- the world inside a walk -/
def hp_Ws (G : hp_G) (B : Nat) (h : hp_H) (s : State) (H : Heap) (locs : List Loc) : Prop := hp_K G s ∧ hp_S G B s s.heap ∧ B ≤ s.heap.size ∧ va_S (fun q => B ≤ q) s.heap H locs ∧ hp_Hp G B h H
theorem hp_W.start {G : hp_G} {B : Nat} {h : hp_H} {s : State} (w : hp_W G B h s) : hp_Ws G B h s s.heap [] := ⟨w.1, w.2.1, w.2.2.1, va_S.rf, w.2.2.2⟩
theorem hp_Ws.size {G : hp_G} {B : Nat} {h : hp_H} {s : State} {H : Heap} {locs : List Loc} (w : hp_Ws G B h s H locs) : B ≤ H.size := Nat.le_trans w.2.2.1 w.2.2.2.1.1
theorem hp_Ws.at {G : hp_G} {B : Nat} {h : hp_H} {s U : State} {H : Heap} {locs : List Loc} (w : hp_Ws G B h s H locs) (hU : U.heap = H) (hW : s.WarmedH U.vm) : hp_W G B h U := by
  obtain ⟨h1, h2, h3, h4, h5⟩ := w
  refine ⟨h1.moved hW, ?_, by rw [hU]; exact Nat.le_trans h3 h4.1, by rw [hU]; exact h5⟩
  rw [hU]
  exact (h2.moved hW.alike).kept (fun a h6 h7 => h4.2.1 a h6 h7)
theorem hp_W.calling {G : hp_G} {B : Nat} {h : hp_H} {U : State} (g : JFrame) (mk : MethodId) (a : Array Value) (w : hp_W G B h U) : hp_W G B h (U.calling g mk a) := ⟨hp_K.moved (s := U) (U := U.calling g mk a) (State.WarmedH.refl U) w.1, hp_S.moved (s := U) (U := U.calling g mk a) (Vm.Alike.refl U.vm) w.2.1, w.2.2.1, w.2.2.2⟩
theorem hp_Ws.le {G : hp_G} {B : Nat} {h h' : hp_H} {s : State} {H : Heap} {locs : List Loc} (w : hp_Ws G B h' s H locs) (hl : hp_le h h') : hp_Ws G B h s H locs := ⟨w.1, w.2.1, w.2.2.1, w.2.2.2.1, w.2.2.2.2.le hl⟩
theorem hp_W.le {G : hp_G} {B : Nat} {h h' : hp_H} {U : State} (w : hp_W G B h' U) (hl : hp_le h h') : hp_W G B h U := ⟨w.1, w.2.1, w.2.2.1, w.2.2.2.le hl⟩
/-- a contract's start and ends: no answer; an answer; thrown -/
def hp_P (G : hp_G) (B : Nat) (h : hp_H) (av : List Value) : Array Value → State → Prop := fun v U => v = av.toArray ∧ hp_W G B h U
theorem hp_P.blind {G : hp_G} {B : Nat} {h : hp_H} {av : List Value} : FrameBlind (hp_P G B h av) := fun a _ g mk q => ⟨q.1, q.2.calling g mk a⟩
def hp_Q (G : hp_G) (B : Nat) (post : Option Value → hp_H → Prop) : Array Value → State → Outcome → State → Prop := fun _ st oc t => (∃ (v : Option Value) (h' : hp_H), oc = .returned v ∧ post v h' ∧ hp_Hp G B h' t.heap) ∧ va_F (fun q => B ≤ q) st t
def hp_X (G : hp_G) (B : Nat) (px : String → hp_H → Prop) : String → State → State → Prop := fun E st t => (∃ h' : hp_H, px E h' ∧ hp_Hp G B h' t.heap) ∧ va_F (fun q => B ≤ q) st t
/-- room by depth: frames, cells, slots -/
def hp_rm (d mc ms : Nat) : Room := { frames := d, cells := mc, slots := ms, locals := 4000 * d }
/-- a contract that returns: y, its code and locals' number, answer; depth, cells, slots; the arguments; the start's heap; the end -/
abbrev hp_M (l : Launch) (G : hp_G) (B : Nat) (y : MethodName) (cc : ByteArray) (nL : Nat) (ret : Option FieldType) (d mc ms : Nat) (av : List Value) (h : hp_H) (post : Option Value → hp_H → Prop) : Prop := Met l y (ws_ y cc nL ret) (hp_rm d mc ms) (hp_P G B h av) (hp_Q G B post) mc ms (fun q => B ≤ q)
/-- .. or throws -/
abbrev hp_MX (l : Launch) (G : hp_G) (B : Nat) (y : MethodName) (cc : ByteArray) (nL : Nat) (ret : Option FieldType) (d mc ms : Nat) (av : List Value) (h : hp_H) (post : Option Value → hp_H → Prop) (px : String → hp_H → Prop) : Prop := vx_Met l y (ws_ y cc nL ret) (hp_rm d mc ms) (hp_P G B h av) (hp_Q G B post) (hp_X G B px) mc ms (fun q => B ≤ q)
