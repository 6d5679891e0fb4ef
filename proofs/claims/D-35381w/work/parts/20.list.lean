/-! ARRAYLIST (printed by tools/m20.py) -/
set_option maxRecDepth 100000
/-- a list with tag t: modCount m, array a of c places that hold g -/
def ALx (G : hp_G) (t x : Nat) (m : Int32) (a c : Nat) (g : Nat → Option Nat) (n : Nat) (h : hp_H) : Prop := h x = some (t, hp_ob 8 [.int m, .ref a, .int (nI n)]) ∧ n ≤ c ∧ c ≤ 300 ∧ ((c = 0 ∧ a = G.2 20 ∧ h a = some (0, hp_ca 3 0 (fun _ => .null))) ∨ (0 < c ∧ h a = some (t, hp_aq G 3 c g)))
def AL (G : hp_G) (t x n : Nat) (f : Nat → Option Nat) (h : hp_H) : Prop := ∃ (m : Int32) (a c : Nat) (g : Nat → Option Nat), ALx G t x m a c g n h ∧ ∀ i, i < n → g i = f i
theorem AL.fr {G : hp_G} {P : Nat → Prop} {t x n : Nat} {f : Nat → Option Nat} {h h' : hp_H} (l : AL G t x n f h) (hf : hp_fr P h h') (ht : ¬ P t) (h0 : ¬ P 0) : AL G t x n f h' := by
  obtain ⟨m, a, c, g, ⟨h1, h2, h3, h4⟩, h5⟩ := l
  refine ⟨m, a, c, g, ⟨hf _ _ _ h1 ht, h2, h3, ?_⟩, h5⟩
  rcases h4 with ⟨q1, q2, q3⟩ | ⟨q1, q2⟩
  · exact Or.inl ⟨q1, q2, hf _ _ _ q3 h0⟩
  · exact Or.inr ⟨q1, hf _ _ _ q2 ht⟩
theorem AL.congr {G : hp_G} {t x n : Nat} {f f' : Nat → Option Nat} {h : hp_H} (l : AL G t x n f h) (e : ∀ i, i < n → f i = f' i) : AL G t x n f' h := by
  obtain ⟨m, a, c, g, h1, h5⟩ := l
  exact ⟨m, a, c, g, h1, fun i hi => (h5 i hi).trans (e i hi)⟩
theorem hp_fu {h : hp_H} {a t : Nat} {c : hp_C} {x : Nat × hp_C} (ha : h a = some (t, c)) : hp_fr (fun q => q = t) h (hp_up h a x) := hp_fr.up ha rfl
theorem hp_ff {P : Nat → Prop} {h : hp_H} {q : Nat} {x : Nat × hp_C} (hq : h q = none) : hp_fr P h (hp_up h q x) := hp_fr.of_le (fun _ _ e => hp_up_f e hq)
theorem AL.o {G : hp_G} {t x n : Nat} {f : Nat → Option Nat} {h : hp_H} (l : AL G t x n f h) : ∃ fs, h x = some (t, hp_ob 8 fs) := by
  obtain ⟨m, a, c, g, h1, h5⟩ := l
  exact ⟨_, h1.1⟩
/-- an element: an object of another tag that may lie in an Object[] -/
def EL (t : Nat) (h : hp_H) (y : Nat) : Prop := ∃ (t' ci : Nat) (vs : List Value) (C : String) (T : u_T) (N : Nat), t' ≠ t ∧ h y = some (t', hp_ob ci vs) ∧ hp_cl[ci]? = some (C, T, N) ∧ Cond.castable C "java/lang/Object" ∈ lw_tbl
theorem EL.fr {t y : Nat} {h h' : hp_H} (e : EL t h y) (hf : hp_fr (fun q => q = t) h h') : EL t h' y := by
  obtain ⟨t', ci, vs, C, T, N, h1, h2, h3, h4⟩ := e
  exact ⟨t', ci, vs, C, T, N, h1, hf _ _ _ h2 h1, h3, h4⟩
theorem EL.any {G : hp_G} {B t y : Nat} {h : hp_H} {s : State} {H : Heap} {locs : List Loc} (e : EL t h y) (w : hp_Ws G B h s H locs) : va_Any "java/lang/Object" s H y := by
  obtain ⟨t', ci, vs, C, T, N, h1, h2, h3, h4⟩ := e
  exact hp_any w h3 h2 h4
theorem nI_inb {j n : Nat} (h : j < n) (hn : n < 2147483648) : vp_in (nI j) n := vp_in_nI h (by omega)
theorem nI_at {j : Nat} (h : j < 2147483648) : (nI j).toNatClampNeg = j := nI_clamp (by omega)
theorem mt_J0_init {l : Launch} {G : hp_G} {B : Nat} {h : hp_H} {x : Nat} : hp_M l G B yJ0_init cJ0_init 1 none 1 0 0 [.ref x] h (hp_J0 h) := by
  refine hp_M.of (by decide) 0 (List.forall_mem_cons.mpr ⟨rfl, (fun _ h => absurd h List.not_mem_nil)⟩) (Nat.le_of_ble_eq_true rfl) ?_
  intro p e s m below meth cd Q ls X hr hlk hnm w hl hQ
  have hl : hp_L ls 1 [some (.ref x)] := hl
  refine ro_aload_n X hl dJ0_init_0 rfl (by first | exact Or.inr ⟨_, rfl⟩ | exact Or.inl rfl | exact va_rf_or _) ?_
  refine ro_oi X hl q103 dJ0_init_1 (Nat.le_of_ble_eq_true rfl) (Nat.le_of_ble_eq_true rfl) (Nat.le_of_ble_eq_true rfl) ?_
  exact ro_ret0 X w hQ hlk dJ0_init_4 hr (Nat.le_of_ble_eq_true rfl) (Nat.le_of_ble_eq_true rfl) ⟨rfl, rfl⟩
theorem mt_J1_init {l : Launch} {G : hp_G} {B : Nat} {h : hp_H} {x t : Nat} {v u : Value} (hx : h x = some (t, hp_ob 8 [.int 0, v, u])) (ht : t ≠ 0) : hp_M l G B yJ1_init cJ1_init 1 none 2 0 0 [.ref x] h (hp_J0 h) := by
  refine hp_M.of (by decide) 0 (List.forall_mem_cons.mpr ⟨rfl, (fun _ h => absurd h List.not_mem_nil)⟩) (Nat.le_of_ble_eq_true rfl) ?_
  intro p e s m below meth cd Q ls X hr hlk hnm w hl hQ
  have hl : hp_L ls 1 [some (.ref x)] := hl
  refine ro_aload_n X hl dJ1_init_0 rfl (by first | exact Or.inr ⟨_, rfl⟩ | exact Or.inl rfl | exact va_rf_or _) ?_
  refine ro_kJ0 (cs_J1_1 X w (mt_J0_init (x := x)) rfl rfl hl ⟨⟨Nat.le_of_ble_eq_true rfl, Nat.le_of_ble_eq_true rfl⟩, Nat.le_of_ble_eq_true rfl, Nat.le_of_ble_eq_true rfl⟩ (Nat.le_of_ble_eq_true rfl) dJ1_init_1) w (fun H locs w => ?_)
  refine ro_aload_n X hl dJ1_init_4 rfl (by first | exact Or.inr ⟨_, rfl⟩ | exact Or.inl rfl | exact va_rf_or _) ?_
  refine lv_iconst (v := 0) X.1 X.2.1 dJ1_init_5 (by decide) ?_
  refine pf_J1_7 X w dJ1_init_6 rfl rfl hx ht (Nat.le_of_ble_eq_true rfl) (fun H locs w => ?_)
  rw [show ([Value.int 0, v, u] : List Value).set 0 (Value.int 0) = [Value.int 0, v, u] from rfl, hp_up_id hx] at w
  exact ro_ret0 X w hQ hlk dJ1_init_9 hr (Nat.le_of_ble_eq_true rfl) (Nat.le_of_ble_eq_true rfl) ⟨rfl, rfl⟩
theorem mt_J2_init {l : Launch} {G : hp_G} {B : Nat} {h : hp_H} {x t : Nat} {f : Nat → Option Nat} (hx : h x = some (t, hp_ob 8 [.int 0, .null, .int 0])) (ht : t ≠ 0) (h0 : h (G.2 20) = some (0, hp_ca 3 0 (fun _ => .null))) : hp_M l G B yJ2_init cJ2_init 1 none 3 0 0 [.ref x] h (hp_V (fun h1 => AL G t x 0 f h1 ∧ hp_fr (fun q => q = t) h h1)) := by
  refine hp_M.of (by decide) 0 (List.forall_mem_cons.mpr ⟨rfl, (fun _ h => absurd h List.not_mem_nil)⟩) (Nat.le_of_ble_eq_true rfl) ?_
  intro p e s m below meth cd Q ls X hr hlk hnm w hl hQ
  have hl : hp_L ls 1 [some (.ref x)] := hl
  refine ro_aload_n X hl dJ2_init_0 rfl (by first | exact Or.inr ⟨_, rfl⟩ | exact Or.inl rfl | exact va_rf_or _) ?_
  refine ro_kJ0 (cs_J2_1 X w (mt_J1_init hx ht) rfl rfl hl ⟨⟨Nat.le_of_ble_eq_true rfl, Nat.le_of_ble_eq_true rfl⟩, Nat.le_of_ble_eq_true rfl, Nat.le_of_ble_eq_true rfl⟩ (Nat.le_of_ble_eq_true rfl) dJ2_init_1) w (fun H locs w => ?_)
  refine ro_aload_n X hl dJ2_init_4 rfl (by first | exact Or.inr ⟨_, rfl⟩ | exact Or.inl rfl | exact va_rf_or _) ?_
  refine ro_gets X w (List.mem_of_getElem? (i := 0) rfl) q104 (Or.inl rfl) dJ2_init_5 ?_
  refine pf_J2_9 X w dJ2_init_8 rfl rfl hx ht (Nat.le_of_ble_eq_true rfl) (fun H locs w => ?_)
  exact ro_ret0 X w hQ hlk dJ2_init_11 hr (Nat.le_of_ble_eq_true rfl) (Nat.le_of_ble_eq_true rfl) ⟨rfl, ⟨0, G.2 20, 0, f, ⟨(hp_up_s _ _ _), Nat.le_refl _, by omega, Or.inl ⟨rfl, rfl, (hp_up_n (hp_ne_t h0 hx (fun e => ht e.symm))).trans h0⟩⟩, fun i hi => rfl⟩, hp_fr.up hx rfl⟩
theorem mt_J2_size {l : Launch} {G : hp_G} {B : Nat} {h : hp_H} {t x n : Nat} {f : Nat → Option Nat} (al : AL G t x n f h) : hp_M l G B yJ2_size cJ2_size 1 (some .int) 1 0 0 [.ref x] h (hp_J h (.int (nI n))) := by
  refine hp_M.of (by decide) 0 (List.forall_mem_cons.mpr ⟨rfl, (fun _ h => absurd h List.not_mem_nil)⟩) (Nat.le_of_ble_eq_true rfl) ?_
  intro p e s m below meth cd Q ls X hr hlk hnm w hl hQ
  have hl : hp_L ls 1 [some (.ref x)] := hl
  obtain ⟨m0, a, c0, g, ⟨hx, hn, hc, ha⟩, hg⟩ := al
  refine ro_aload_n X hl dJ2_size_0 rfl (by first | exact Or.inr ⟨_, rfl⟩ | exact Or.inl rfl | exact va_rf_or _) ?_
  refine gf_J2_48 X w dJ2_size_1 hx rfl ?_
  exact ro_retI X w hQ hlk dJ2_size_4 hr rfl (Nat.le_of_ble_eq_true rfl) (Nat.le_of_ble_eq_true rfl) ⟨hp_vi (by rfl), rfl⟩
theorem mt_J2_isEmpty {l : Launch} {G : hp_G} {B : Nat} {h : hp_H} {t x n : Nat} {f : Nat → Option Nat} (al : AL G t x n f h) : hp_M l G B yJ2_isEmpty cJ2_isEmpty 1 (some .boolean) 1 0 0 [.ref x] h (hp_J h (.int (bz (nI n = 0)))) := by
  refine hp_M.of (by decide) 0 (List.forall_mem_cons.mpr ⟨rfl, (fun _ h => absurd h List.not_mem_nil)⟩) (Nat.le_of_ble_eq_true rfl) ?_
  intro p e s m below meth cd Q ls X hr hlk hnm w hl hQ
  have hl : hp_L ls 1 [some (.ref x)] := hl
  obtain ⟨m0, a, c0, g, ⟨hx, hn, hc, ha⟩, hg⟩ := al
  refine ro_aload_n X hl dJ2_isEmpty_0 rfl (by first | exact Or.inr ⟨_, rfl⟩ | exact Or.inl rfl | exact va_rf_or _) ?_
  refine gf_J2_48 X w dJ2_isEmpty_1 hx rfl ?_
  refine lv_if_ne (tgt := 11) X.1 X.2.1 dJ2_isEmpty_4 (by decide) (fun c4 => ?_) (fun c4 => ?_)
  · refine lv_iconst (v := 0) X.1 X.2.1 dJ2_isEmpty_11 (by decide) ?_
    exact ro_retI X w hQ hlk dJ2_isEmpty_12 hr rfl (Nat.le_of_ble_eq_true rfl) (Nat.le_of_ble_eq_true rfl) ⟨hp_vi (by simp [bz, *]), rfl⟩
  · refine lv_iconst (v := 1) X.1 X.2.1 dJ2_isEmpty_7 (by decide) ?_
    refine lv_goto (tgt := 12) X.1 X.2.1 dJ2_isEmpty_8 (by decide) ?_
    exact ro_retI X w hQ hlk dJ2_isEmpty_12 hr rfl (Nat.le_of_ble_eq_true rfl) (Nat.le_of_ble_eq_true rfl) ⟨hp_vi (by simp [bz, *]), rfl⟩
theorem mt_J18_checkIndex {l : Launch} {G : hp_G} {B : Nat} {h : hp_H} {v k : Int32} (h0 : ¬ v < 0) (h1 : v < k) : hp_M l G B yJ18_checkIndex cJ18_checkIndex 3 (some .int) 1 0 0 [.int v, .int k, .null] h (hp_J h (.int v)) := by
  refine hp_M.of (by decide) 0 (List.forall_mem_cons.mpr ⟨rfl, (List.forall_mem_cons.mpr ⟨rfl, (List.forall_mem_cons.mpr ⟨rfl, (fun _ h => absurd h List.not_mem_nil)⟩)⟩)⟩) (Nat.le_of_ble_eq_true rfl) ?_
  intro p e s m below meth cd Q ls X hr hlk hnm w hl hQ
  have hl : hp_L ls 3 [some (.int v), some (.int k), some (.null)] := hl
  refine ro_iload_n X hl dJ18_checkIndex_0 rfl ?_
  refine lv_if_lt (tgt := 9) X.1 X.2.1 dJ18_checkIndex_1 (by decide) (fun c1 => ?_) (fun c1 => ?_)
  · exact absurd c1 h0
  · refine ro_iload_n X hl dJ18_checkIndex_4 rfl ?_
    refine ro_iload_n X hl dJ18_checkIndex_5 rfl ?_
    refine lv_icmp_lt (tgt := 16) X.1 X.2.1 dJ18_checkIndex_6 (by decide) (fun c6 => ?_) (fun c6 => ?_)
    · refine ro_iload_n X hl dJ18_checkIndex_16 rfl ?_
      exact ro_retI X w hQ hlk dJ18_checkIndex_17 hr rfl (Nat.le_of_ble_eq_true rfl) (Nat.le_of_ble_eq_true rfl) ⟨hp_vi (by rfl), rfl⟩
    · exact absurd h1 c6
theorem mt_J17_checkIndex {l : Launch} {G : hp_G} {B : Nat} {h : hp_H} {v k : Int32} (h0 : ¬ v < 0) (h1 : v < k) : hp_M l G B yJ17_checkIndex cJ17_checkIndex 2 (some .int) 2 0 0 [.int v, .int k] h (hp_J h (.int v)) := by
  refine hp_M.of (by decide) 0 (List.forall_mem_cons.mpr ⟨rfl, (List.forall_mem_cons.mpr ⟨rfl, (fun _ h => absurd h List.not_mem_nil)⟩)⟩) (Nat.le_of_ble_eq_true rfl) ?_
  intro p e s m below meth cd Q ls X hr hlk hnm w hl hQ
  have hl : hp_L ls 2 [some (.int v), some (.int k)] := hl
  refine ro_iload_n X hl dJ17_checkIndex_0 rfl ?_
  refine ro_iload_n X hl dJ17_checkIndex_1 rfl ?_
  refine lv_null X.1 X.2.1 dJ17_checkIndex_2 ?_
  refine ro_kJ (cs_J17_105 X w (mt_J18_checkIndex h0 h1) rfl rfl hl ⟨⟨Nat.le_of_ble_eq_true rfl, Nat.le_of_ble_eq_true rfl⟩, Nat.le_of_ble_eq_true rfl, Nat.le_of_ble_eq_true rfl⟩ (Nat.le_of_ble_eq_true rfl) dJ17_checkIndex_3) w (fun H locs w => ?_)
  exact ro_retI X w hQ hlk dJ17_checkIndex_6 hr rfl (Nat.le_of_ble_eq_true rfl) (Nat.le_of_ble_eq_true rfl) ⟨hp_vi (by rfl), rfl⟩
theorem mt_J2_elementData {l : Launch} {G : hp_G} {B : Nat} {h : hp_H} {x t a c0 k : Nat} {g : Nat → Option Nat} {u w0 : Value} {v : Int32} (hx : h x = some (t, hp_ob 8 [u, .ref a, w0])) (ha : h a = some (t, hp_aq G 3 c0 g)) (hv : v = nI k) (hk : k < c0) (hc : c0 ≤ 300) : hp_M l G B yJ2_elementData cJ2_elementData 2 (some (.object "java/lang/Object")) 1 0 0 [.ref x, .int v] h (hp_J h (va_rf (g k))) := by
  refine hp_M.of (by decide) 0 (List.forall_mem_cons.mpr ⟨rfl, (List.forall_mem_cons.mpr ⟨rfl, (fun _ h => absurd h List.not_mem_nil)⟩)⟩) (Nat.le_of_ble_eq_true rfl) ?_
  intro p e s m below meth cd Q ls X hr hlk hnm w hl hQ
  have hl : hp_L ls 2 [some (.ref x), some (.int v)] := hl
  refine ro_aload_n X hl dJ2_elementData_0 rfl (by first | exact Or.inr ⟨_, rfl⟩ | exact Or.inl rfl | exact va_rf_or _) ?_
  refine gf_J2_9 X w dJ2_elementData_1 hx rfl ?_
  refine ro_iload_n X hl dJ2_elementData_4 rfl ?_
  refine ro_aald X w dJ2_elementData_5 (k := 3) (C := "java/lang/Object") rfl ha (by rw [hv]; exact nI_inb hk (by omega)) ?_
  rw [show v.toNatClampNeg = k by rw [hv]; exact nI_at (by omega)]
  exact ro_retA X w hQ hlk dJ2_elementData_6 hr (Or.inl ⟨_, rfl⟩) (by first | exact Or.inr ⟨_, rfl⟩ | exact Or.inl rfl | exact va_rf_or _) (Nat.le_of_ble_eq_true rfl) (Nat.le_of_ble_eq_true rfl) ⟨rfl, rfl⟩
theorem mt_J2_get {l : Launch} {G : hp_G} {B : Nat} {h : hp_H} {t x n : Nat} {f : Nat → Option Nat} {v : Int32} {k : Nat} (al : AL G t x n f h) (hv : v = nI k) (hk : k < n) : hp_M l G B yJ2_get cJ2_get 2 (some (.object "java/lang/Object")) 3 0 0 [.ref x, .int v] h (hp_J h (va_rf (f k))) := by
  refine hp_M.of (by decide) 0 (List.forall_mem_cons.mpr ⟨rfl, (List.forall_mem_cons.mpr ⟨rfl, (fun _ h => absurd h List.not_mem_nil)⟩)⟩) (Nat.le_of_ble_eq_true rfl) ?_
  intro p e s m below meth cd Q ls X hr hlk hnm w hl hQ
  have hl : hp_L ls 2 [some (.ref x), some (.int v)] := hl
  obtain ⟨m0, a, c0, g, ⟨hx, hn, hc, ha⟩, hg⟩ := al
  have ha := ha.resolve_left (fun q => by omega)
  have h0 : ¬ v < 0 := by rw [hv]; exact nI_pos (by omega)
  have h1 : v < nI n := by rw [hv]; exact (nI_ltI (by omega) (by omega)).mpr hk
  refine ro_iload_n X hl dJ2_get_0 rfl ?_
  refine ro_aload_n X hl dJ2_get_1 rfl (by first | exact Or.inr ⟨_, rfl⟩ | exact Or.inl rfl | exact va_rf_or _) ?_
  refine gf_J2_48 X w dJ2_get_2 hx rfl ?_
  refine ro_kJ (cs_J2_118 X w (mt_J17_checkIndex h0 h1) rfl rfl hl ⟨⟨Nat.le_of_ble_eq_true rfl, Nat.le_of_ble_eq_true rfl⟩, Nat.le_of_ble_eq_true rfl, Nat.le_of_ble_eq_true rfl⟩ (Nat.le_of_ble_eq_true rfl) dJ2_get_5) w (fun H locs w => ?_)
  refine lv_pop X.1 X.2.1 dJ2_get_8 rfl ?_
  refine ro_aload_n X hl dJ2_get_9 rfl (by first | exact Or.inr ⟨_, rfl⟩ | exact Or.inl rfl | exact va_rf_or _) ?_
  refine ro_iload_n X hl dJ2_get_10 rfl ?_
  refine ro_kJ (cs_J2_123 X w hx (mt_J2_elementData hx ha.2 hv (Nat.lt_of_lt_of_le hk hn) hc) rfl rfl hl ⟨⟨Nat.le_of_ble_eq_true rfl, Nat.le_of_ble_eq_true rfl⟩, Nat.le_of_ble_eq_true rfl, Nat.le_of_ble_eq_true rfl⟩ (Nat.le_of_ble_eq_true rfl) dJ2_get_11) w (fun H locs w => ?_)
  rw [hg k hk]
  exact ro_retA X w hQ hlk dJ2_get_14 hr (Or.inl ⟨_, rfl⟩) (by first | exact Or.inr ⟨_, rfl⟩ | exact Or.inl rfl | exact va_rf_or _) (Nat.le_of_ble_eq_true rfl) (Nat.le_of_ble_eq_true rfl) ⟨rfl, rfl⟩
theorem nI_sub {a b : Nat} (h : b ≤ a) : nI a - nI b = nI (a - b) := by
  have e : a = b + (a - b) := by omega
  conv => lhs; rw [e, ← nI_add]
  rw [Int32.add_comm, Int32.add_sub_cancel]
theorem nI_max {a b : Nat} (ha : a < 2147483648) (hb : b < 2147483648) : (if nI a < nI b then nI b else nI a) = nI (max a b) := by
  by_cases h : a < b
  · rw [if_pos ((nI_ltI (by omega) (by omega)).mpr h), Nat.max_eq_right (by omega)]
  · rw [if_neg (fun z => h ((nI_ltI (by omega) (by omega)).mp z)), Nat.max_eq_left (by omega)]
theorem nI_min {a b : Nat} (ha : a < 2147483648) (hb : b < 2147483648) : (if nI b < nI a then nI b else nI a) = nI (min a b) := by
  by_cases h : b < a
  · rw [if_pos ((nI_ltI (by omega) (by omega)).mpr h), Nat.min_eq_right (by omega)]
  · rw [if_neg (fun z => h ((nI_ltI (by omega) (by omega)).mp z)), Nat.min_eq_left (by omega)]
theorem mt_J10_newLength {l : Launch} {G : hp_G} {B : Nat} {h : hp_H} {a b c0 : Nat} (hs : a + b + c0 ≤ 1000000) (h0 : 0 < max b c0 + a) : hp_M l G B yJ10_newLength cJ10_newLength 4 (some .int) 2 0 0 [.int (nI a), .int (nI b), .int (nI c0)] h (hp_J h (.int (nI (max b c0 + a)))) := by
  refine hp_M.of (by decide) 1 (List.forall_mem_cons.mpr ⟨rfl, (List.forall_mem_cons.mpr ⟨rfl, (List.forall_mem_cons.mpr ⟨rfl, (fun _ h => absurd h List.not_mem_nil)⟩)⟩)⟩) (Nat.le_of_ble_eq_true rfl) ?_
  intro p e s m below meth cd Q ls X hr hlk hnm w hl hQ
  have hl : hp_L ls 4 [some (.int (nI a)), some (.int (nI b)), some (.int (nI c0)), none] := hl
  refine ro_iload_n X hl dJ10_newLength_0 rfl ?_
  refine ro_iload_n X hl dJ10_newLength_1 rfl ?_
  refine ro_iload_n X hl dJ10_newLength_2 rfl ?_
  refine ro_max X hl q333 (Nat.le_of_ble_eq_true rfl) (Nat.le_of_ble_eq_true rfl) (Nat.le_of_ble_eq_true rfl) (Nat.le_of_ble_eq_true rfl) (Nat.le_of_ble_eq_true rfl) dJ10_newLength_3 ?_
  rw [nI_max (by omega) (by omega)]
  refine lv_iadd X.1 X.2.1 dJ10_newLength_6 ?_
  rw [nI_add, Nat.add_comm a]
  refine ro_istore_n X hl dJ10_newLength_7 (by decide) (fun ls hl => ?_)
  refine lv_iconst (v := 0) X.1 X.2.1 dJ10_newLength_8 (by decide) ?_
  refine ro_iload_n X hl dJ10_newLength_9 rfl ?_
  refine lv_icmp_ge (tgt := 21) X.1 X.2.1 dJ10_newLength_10 (by decide) (fun c10 => ?_) (fun c10 => ?_)
  · exact absurd c10 (by rw [show (0 : Int32) = nI 0 from rfl]; exact nI_ge (by omega) (by omega))
  · refine ro_iload_n X hl dJ10_newLength_13 rfl ?_
    refine lv_ldc (v := 2147483639) X.1 X.2.1 X.2.2.2.1 (X.2.2.2.2 _ q336) dJ10_newLength_14 ?_
    refine lv_icmp_gt (tgt := 21) X.1 X.2.1 dJ10_newLength_16 (by decide) (fun c16 => ?_) (fun c16 => ?_)
    · exact absurd c16 (nI_nlt (a := 2147483639) (by omega) (by decide))
    · refine ro_iload_n X hl dJ10_newLength_19 rfl ?_
      exact ro_retI X w hQ hlk dJ10_newLength_20 hr rfl (Nat.le_of_ble_eq_true rfl) (Nat.le_of_ble_eq_true rfl) ⟨hp_vi (by rfl), rfl⟩
theorem mt_J12_copyOf_2 {l : Launch} {G : hp_G} {B : Nat} {h : hp_H} {a t t0 n k : Nat} {g : Nat → Option Nat} (ha : h a = some (t0, hp_aq G 3 n g)) (ht : t ≠ 0) (hnk : n ≤ k) (hk : k ≤ 300) (he : ∀ i, i < n → ∀ y, g i = some y → EL t h y) : hp_M l G B yJ12_copyOf_2 cJ12_copyOf_2 4 (some (.array (.object "java/lang/Object"))) 2 1 300 [.ref a, .int (nI k), .ref (G.2 30)] h (hp_E (fun r h1 => ∃ q g1, r = .ref q ∧ h q = none ∧ h1 = hp_up h q (t, hp_aq G 3 k g1) ∧ ∀ i, i < n → g1 i = g i)) := by
  refine hp_M.of (by decide) 1 (List.forall_mem_cons.mpr ⟨rfl, (List.forall_mem_cons.mpr ⟨rfl, (List.forall_mem_cons.mpr ⟨rfl, (fun _ h => absurd h List.not_mem_nil)⟩)⟩)⟩) (Nat.le_of_ble_eq_true rfl) ?_
  intro p e s m below meth cd Q ls X hr hlk hnm w hl hQ
  have hl : hp_L ls 4 [some (.ref a), some (.int (nI k)), some (.ref (G.2 30)), none] := hl
  refine ro_aload_n X hl dJ12_copyOf_2_0 rfl (by first | exact Or.inr ⟨_, rfl⟩ | exact Or.inl rfl | exact va_rf_or _) ?_
  refine ro_mir X w q374 dJ12_copyOf_2_1 ?_
  refine lv_acmp_ne (rx := some (G.2 30)) (ry := some (G.2 30)) (tgt := 13) X.1 X.2.1 dJ12_copyOf_2_3 (by decide) (fun c3 => absurd rfl c3) (fun _ => ?_)
  refine ro_iload_n X hl dJ12_copyOf_2_6 rfl ?_
  refine ro_anew X w (C := "java/lang/Object") q376 w.1.2.2.2.1.1 3 rfl dJ12_copyOf_2_7 (n := nI k) (N' := k) (nI_pos (by omega)) (nI_at (by omega)) t ht (by omega) (Nat.le_of_ble_eq_true rfl) (show 0 + k ≤ 300 by omega) (fun q H hq w => ?_)
  have hq1 : hp_up h q (t, hp_aq G 3 k (fun _ => none)) q = some (t, hp_aq G 3 k (fun _ => none)) := hp_up_s _ _ _
  have ha1 : hp_up h q (t, hp_aq G 3 k (fun _ => none)) a = some (t0, hp_aq G 3 n g) := hp_up_f ha hq
  refine lv_goto (tgt := 24) X.1 X.2.1 dJ12_copyOf_2_10 (by decide) ?_
  refine ro_astore_n X hl dJ12_copyOf_2_24 (by decide) (by first | exact Or.inr ⟨_, rfl⟩ | exact Or.inl rfl | exact va_rf_or _) (fun ls hl => ?_)
  refine ro_aload_n X hl dJ12_copyOf_2_25 rfl (by first | exact Or.inr ⟨_, rfl⟩ | exact Or.inl rfl | exact va_rf_or _) ?_
  refine lv_iconst (v := 0) X.1 X.2.1 dJ12_copyOf_2_26 (by decide) ?_
  refine ro_aload_n X hl dJ12_copyOf_2_27 rfl (by first | exact Or.inr ⟨_, rfl⟩ | exact Or.inl rfl | exact va_rf_or _) ?_
  refine lv_iconst (v := 0) X.1 X.2.1 dJ12_copyOf_2_28 (by decide) ?_
  refine ro_aload_n X hl dJ12_copyOf_2_29 rfl (by first | exact Or.inr ⟨_, rfl⟩ | exact Or.inl rfl | exact va_rf_or _) ?_
  refine ro_alenQ X w dJ12_copyOf_2_30 (k := 3) rfl ha1 ?_
  refine ro_iload_n X hl dJ12_copyOf_2_31 rfl ?_
  refine ro_min X hl q377 (Nat.le_of_ble_eq_true rfl) (Nat.le_of_ble_eq_true rfl) (Nat.le_of_ble_eq_true rfl) (Nat.le_of_ble_eq_true rfl) (show 0 + k ≤ 300 by omega) dJ12_copyOf_2_32 ?_
  rw [show (if nI k < nI n then nI k else nI n) = nI n from if_neg (nI_nlt (by omega) (by omega))]
  refine ro_copyq X w hl q380 dJ12_copyOf_2_35 ha1 hq1 ht (by decide) (by decide) (nI_pos (by omega)) (by rw [nI_at (by omega)]; show 0 + n ≤ n; omega) (by rw [nI_at (by omega)]; show 0 + n ≤ k; omega) (fun i hi y hy => ((he i (by rw [nI_at (by omega)] at hi; exact hi) y (by rw [show (0 : Int32).toNatClampNeg = 0 from rfl, Nat.zero_add] at hy; exact hy)).fr (hp_fr.of_le (fun a y e => hp_up_f e hq))).any w) (Nat.le_of_ble_eq_true rfl) (Nat.le_of_ble_eq_true rfl) (Nat.le_of_ble_eq_true rfl) (fun H locs w => ?_)
  rw [hp_up_up] at w
  refine ro_aload_n X hl dJ12_copyOf_2_38 rfl (by first | exact Or.inr ⟨_, rfl⟩ | exact Or.inl rfl | exact va_rf_or _) ?_
  exact ro_retA X w hQ hlk dJ12_copyOf_2_39 hr (Or.inr ⟨_, rfl⟩) (by first | exact Or.inr ⟨_, rfl⟩ | exact Or.inl rfl | exact va_rf_or _) (Nat.le_of_ble_eq_true rfl) (show 0 + k ≤ 300 by omega) ⟨_, rfl, q, _, rfl, hq, rfl, fun i hi => by
      unfold va_cpy
      rw [nI_at (by omega), show (0 : Int32).toNatClampNeg = 0 from rfl, if_pos (by omega), Nat.zero_add, Nat.sub_zero]⟩
theorem mt_J12_copyOf {l : Launch} {G : hp_G} {B : Nat} {h : hp_H} {a t t0 n k : Nat} {g : Nat → Option Nat} (ha : h a = some (t0, hp_aq G 3 n g)) (ht : t ≠ 0) (hnk : n ≤ k) (hk : k ≤ 300) (he : ∀ i, i < n → ∀ y, g i = some y → EL t h y) : hp_M l G B yJ12_copyOf cJ12_copyOf 2 (some (.array (.object "java/lang/Object"))) 3 1 300 [.ref a, .int (nI k)] h (hp_E (fun r h1 => ∃ q g1, r = .ref q ∧ h q = none ∧ h1 = hp_up h q (t, hp_aq G 3 k g1) ∧ ∀ i, i < n → g1 i = g i)) := by
  refine hp_M.of (by decide) 0 (List.forall_mem_cons.mpr ⟨rfl, (List.forall_mem_cons.mpr ⟨rfl, (fun _ h => absurd h List.not_mem_nil)⟩)⟩) (Nat.le_of_ble_eq_true rfl) ?_
  intro p e s m below meth cd Q ls X hr hlk hnm w hl hQ
  have hl : hp_L ls 2 [some (.ref a), some (.int (nI k))] := hl
  refine ro_aload_n X hl dJ12_copyOf_0 rfl (by first | exact Or.inr ⟨_, rfl⟩ | exact Or.inl rfl | exact va_rf_or _) ?_
  refine ro_iload_n X hl dJ12_copyOf_1 rfl ?_
  refine ro_aload_n X hl dJ12_copyOf_2 rfl (by first | exact Or.inr ⟨_, rfl⟩ | exact Or.inl rfl | exact va_rf_or _) ?_
  refine ro_getC X w hl q343 dJ12_copyOf_3 ha (Nat.le_of_ble_eq_true rfl) (Nat.le_of_ble_eq_true rfl) (Nat.le_of_ble_eq_true rfl) ?_
  refine ro_kE (cs_J12_300 X w (mt_J12_copyOf_2 ha ht hnk hk he) rfl rfl hl ⟨⟨Nat.le_of_ble_eq_true rfl, Nat.le_of_ble_eq_true rfl⟩, Nat.le_of_ble_eq_true rfl, Nat.le_of_ble_eq_true rfl⟩ (Nat.le_of_ble_eq_true rfl) dJ12_copyOf_6) w (fun r6 h6 H locs hp6 w => ?_)
  obtain ⟨q, g1, rfl, hq, rfl, hg1⟩ := hp6
  exact ro_retA X w hQ hlk dJ12_copyOf_9 hr (Or.inr ⟨_, rfl⟩) (by first | exact Or.inr ⟨_, rfl⟩ | exact Or.inl rfl | exact va_rf_or _) (Nat.le_of_ble_eq_true rfl) (Nat.le_of_ble_eq_true rfl) ⟨_, rfl, q, g1, rfl, hq, rfl, hg1⟩
theorem mt_J2_grow_2 {l : Launch} {G : hp_G} {B : Nat} {h : hp_H} {t x n a c0 : Nat} {m0 : Int32} {g : Nat → Option Nat} (al : ALx G t x m0 a c0 g n h) (ht : t ≠ 0) (hf : n = c0) (hn2 : n ≤ 200) (he : ∀ i, i < n → ∀ y, g i = some y → EL t h y) : hp_M l G B yJ2_grow_2 cJ2_grow_2 4 (some (.array (.object "java/lang/Object"))) 4 1 300 [.ref x, .int (nI (n + 1))] h (hp_E (fun r h1 => ∃ a1 c1 g1, r = .ref a1 ∧ ALx G t x m0 a1 c1 g1 n h1 ∧ n < c1 ∧ (∀ i, i < n → g1 i = g i) ∧ hp_fr (fun q => q = t) h h1)) := by
  refine hp_M.of (by decide) 2 (List.forall_mem_cons.mpr ⟨rfl, (List.forall_mem_cons.mpr ⟨rfl, (fun _ h => absurd h List.not_mem_nil)⟩)⟩) (Nat.le_of_ble_eq_true rfl) ?_
  intro p e s m below meth cd Q ls X hr hlk hnm w hl hQ
  have hl : hp_L ls 4 [some (.ref x), some (.int (nI (n + 1))), none, none] := hl
  obtain ⟨hx, hn, hc, ha⟩ := al
  rcases ha with ⟨e0, ea, ha⟩ | ⟨hc0, ha⟩
  · subst e0
    subst hf
    subst ea
    refine ro_aload_n X hl dJ2_grow_2_0 rfl (by first | exact Or.inr ⟨_, rfl⟩ | exact Or.inl rfl | exact va_rf_or _) ?_
    refine gf_J2_9 X w dJ2_grow_2_1 hx rfl ?_
    refine ro_alenc X w dJ2_grow_2_4 (k := 3) rfl ha ?_
    refine ro_istore_n X hl dJ2_grow_2_5 (by decide) (fun ls hl => ?_)
    refine ro_iload_n X hl dJ2_grow_2_6 rfl ?_
    refine lv_if_gt (tgt := 20) X.1 X.2.1 dJ2_grow_2_7 (by decide) (fun c7 => ?_) (fun c7 => ?_)
    · exact absurd c7 (by decide)
    · refine ro_aload_n X hl dJ2_grow_2_10 rfl (by first | exact Or.inr ⟨_, rfl⟩ | exact Or.inl rfl | exact va_rf_or _) ?_
      refine gf_J2_9 X w dJ2_grow_2_11 hx rfl ?_
      refine ro_gets X w (List.mem_of_getElem? (i := 0) rfl) q104 (Or.inl rfl) dJ2_grow_2_14 ?_
      refine lv_acmp_eq (rx := some (G.2 20)) (ry := some (G.2 20)) (tgt := 45) X.1 X.2.1 dJ2_grow_2_17 (by decide) (fun _ => ?_) (fun c17 => absurd rfl c17)
      refine ro_aload_n X hl dJ2_grow_2_45 rfl (by first | exact Or.inr ⟨_, rfl⟩ | exact Or.inl rfl | exact va_rf_or _) ?_
      refine lv_bipush (v := 10) X.1 X.2.1 dJ2_grow_2_46 (by decide) ?_
      refine ro_iload_n X hl dJ2_grow_2_48 rfl ?_
      refine ro_max X hl q383 (Nat.le_of_ble_eq_true rfl) (Nat.le_of_ble_eq_true rfl) (Nat.le_of_ble_eq_true rfl) (Nat.le_of_ble_eq_true rfl) (Nat.le_of_ble_eq_true rfl) dJ2_grow_2_49 ?_
      rw [show (if (10 : Int32) < nI (0 + 1) then nI (0 + 1) else 10) = nI 10 from by decide]
      refine ro_anew X w (C := "java/lang/Object") q384 w.1.2.2.2.1.1 3 rfl dJ2_grow_2_52 (n := nI 10) (N' := 10) (by decide) (by decide) t ht (by omega) (Nat.le_of_ble_eq_true rfl) (Nat.le_of_ble_eq_true rfl) (fun q H hq w => ?_)
      have hx1 : hp_up h q (t, hp_aq G 3 10 (fun _ => none)) x = some (t, hp_ob 8 [.int m0, .ref (G.2 20), .int (nI 0)]) := hp_up_f hx hq
      refine lv_dup_x1 X.1 X.2.1 dJ2_grow_2_55 rfl rfl ?_
      refine pf_J2_9 X w dJ2_grow_2_56 rfl rfl hx1 ht (Nat.le_of_ble_eq_true rfl) (fun H locs w => ?_)
      exact ro_retA X w hQ hlk dJ2_grow_2_59 hr (Or.inr ⟨_, rfl⟩) (by first | exact Or.inr ⟨_, rfl⟩ | exact Or.inl rfl | exact va_rf_or _) (Nat.le_of_ble_eq_true rfl) (Nat.le_of_ble_eq_true rfl) ⟨_, rfl, q, 10, (fun _ => none), rfl, ⟨hp_up_s _ _ _, by omega, by omega, Or.inr ⟨by decide, (hp_up_n (fun z => hp_ne_f hx hq z.symm)).trans (hp_up_s _ _ _)⟩⟩, by omega, fun i hi => absurd hi (Nat.not_lt_zero i), (hp_fr.of_le (fun a y e => hp_up_f e hq)).tr (hp_fr.up hx1 rfl)⟩
  · refine ro_aload_n X hl dJ2_grow_2_0 rfl (by first | exact Or.inr ⟨_, rfl⟩ | exact Or.inl rfl | exact va_rf_or _) ?_
    refine gf_J2_9 X w dJ2_grow_2_1 hx rfl ?_
    refine ro_alenQ X w dJ2_grow_2_4 (k := 3) rfl ha ?_
    refine ro_istore_n X hl dJ2_grow_2_5 (by decide) (fun ls hl => ?_)
    refine ro_iload_n X hl dJ2_grow_2_6 rfl ?_
    refine lv_if_gt (tgt := 20) X.1 X.2.1 dJ2_grow_2_7 (by decide) (fun c7 => ?_) (fun c7 => ?_)
    · refine ro_iload_n X hl dJ2_grow_2_20 rfl ?_
      refine ro_iload_n X hl dJ2_grow_2_21 rfl ?_
      refine ro_iload_n X hl dJ2_grow_2_22 rfl ?_
      refine lv_isub X.1 X.2.1 dJ2_grow_2_23 ?_
      refine ro_iload_n X hl dJ2_grow_2_24 rfl ?_
      refine lv_iconst (v := 1) X.1 X.2.1 dJ2_grow_2_25 (by decide) ?_
      refine lv_ishr X.1 X.2.1 dJ2_grow_2_26 ?_
      rw [show nI c0 >>> ((1 : Int32) &&& 31) = nI (c0 / 2) from pk_shrN (n := c0) (by omega) (1 &&& 31) 1 rfl]
      rw [show nI (n + 1) - nI c0 = nI 1 by rw [pk_sub (by omega)]; congr 1; omega]
      refine ro_kJ (cs_J2_73 X w (mt_J10_newLength (a := c0) (b := 1) (c0 := c0 / 2) (by omega) (by omega)) rfl rfl hl ⟨⟨Nat.le_of_ble_eq_true rfl, Nat.le_of_ble_eq_true rfl⟩, Nat.le_of_ble_eq_true rfl, Nat.le_of_ble_eq_true rfl⟩ (Nat.le_of_ble_eq_true rfl) dJ2_grow_2_27) w (fun H locs w => ?_)
      refine ro_istore_n X hl dJ2_grow_2_30 (by decide) (fun ls hl => ?_)
      refine ro_aload_n X hl dJ2_grow_2_31 rfl (by first | exact Or.inr ⟨_, rfl⟩ | exact Or.inl rfl | exact va_rf_or _) ?_
      refine ro_aload_n X hl dJ2_grow_2_32 rfl (by first | exact Or.inr ⟨_, rfl⟩ | exact Or.inl rfl | exact va_rf_or _) ?_
      refine gf_J2_9 X w dJ2_grow_2_33 hx rfl ?_
      refine ro_iload_n X hl dJ2_grow_2_36 rfl ?_
      refine ro_kE (cs_J2_66 X w (mt_J12_copyOf (n := n) (k := max 1 (c0 / 2) + c0) (by subst hf; exact ha) ht (by omega) (by omega) he) rfl rfl hl ⟨⟨Nat.le_of_ble_eq_true rfl, Nat.le_of_ble_eq_true rfl⟩, Nat.le_of_ble_eq_true rfl, Nat.le_of_ble_eq_true rfl⟩ (Nat.le_of_ble_eq_true rfl) dJ2_grow_2_37) w (fun r37 h37 H locs hp37 w => ?_)
      obtain ⟨q, g1, rfl, hq, rfl, hg1⟩ := hp37
      refine lv_dup_x1 X.1 X.2.1 dJ2_grow_2_40 rfl rfl ?_
      have hx1 : hp_up h q (t, hp_aq G 3 (max 1 (c0 / 2) + c0) g1) x = some (t, hp_ob 8 [.int m0, .ref a, .int (nI n)]) := hp_up_f hx hq
      refine pf_J2_9 X w dJ2_grow_2_41 rfl rfl hx1 ht (Nat.le_of_ble_eq_true rfl) (fun H locs w => ?_)
      exact ro_retA X w hQ hlk dJ2_grow_2_44 hr (Or.inr ⟨_, rfl⟩) (by first | exact Or.inr ⟨_, rfl⟩ | exact Or.inl rfl | exact va_rf_or _) (Nat.le_of_ble_eq_true rfl) (Nat.le_of_ble_eq_true rfl) ⟨_, rfl, q, max 1 (c0 / 2) + c0, g1, rfl, ⟨hp_up_s _ _ _, by omega, by omega, Or.inr ⟨by omega, (hp_up_n (fun z => hp_ne_f hx hq z.symm)).trans (hp_up_s _ _ _)⟩⟩, by omega, hg1, (hp_fr.of_le (fun a y e => hp_up_f e hq)).tr (hp_fr.up hx1 rfl)⟩
    · exact absurd (show (0 : Int32) < nI c0 from (nI_ltI (a := 0) (by decide) (by omega)).mpr hc0) c7
theorem mt_J2_grow {l : Launch} {G : hp_G} {B : Nat} {h : hp_H} {t x n a c0 : Nat} {m0 : Int32} {g : Nat → Option Nat} (al : ALx G t x m0 a c0 g n h) (ht : t ≠ 0) (hf : n = c0) (hn2 : n ≤ 200) (he : ∀ i, i < n → ∀ y, g i = some y → EL t h y) : hp_M l G B yJ2_grow cJ2_grow 1 (some (.array (.object "java/lang/Object"))) 5 1 300 [.ref x] h (hp_E (fun r h1 => ∃ a1 c1 g1, r = .ref a1 ∧ ALx G t x m0 a1 c1 g1 n h1 ∧ n < c1 ∧ (∀ i, i < n → g1 i = g i) ∧ hp_fr (fun q => q = t) h h1)) := by
  refine hp_M.of (by decide) 0 (List.forall_mem_cons.mpr ⟨rfl, (fun _ h => absurd h List.not_mem_nil)⟩) (Nat.le_of_ble_eq_true rfl) ?_
  intro p e s m below meth cd Q ls X hr hlk hnm w hl hQ
  have hl : hp_L ls 1 [some (.ref x)] := hl
  have hx := al.1
  refine ro_aload_n X hl dJ2_grow_0 rfl (by first | exact Or.inr ⟨_, rfl⟩ | exact Or.inl rfl | exact va_rf_or _) ?_
  refine ro_aload_n X hl dJ2_grow_1 rfl (by first | exact Or.inr ⟨_, rfl⟩ | exact Or.inl rfl | exact va_rf_or _) ?_
  refine gf_J2_48 X w dJ2_grow_2 hx rfl ?_
  refine lv_iconst (v := 1) X.1 X.2.1 dJ2_grow_5 (by decide) ?_
  refine lv_iadd X.1 X.2.1 dJ2_grow_6 ?_
  rw [show nI n + 1 = nI (n + 1) from nI_1 n]
  refine ro_kE (cs_J2_69 X w hx (mt_J2_grow_2 al ht hf hn2 he) rfl rfl hl ⟨⟨Nat.le_of_ble_eq_true rfl, Nat.le_of_ble_eq_true rfl⟩, Nat.le_of_ble_eq_true rfl, Nat.le_of_ble_eq_true rfl⟩ (Nat.le_of_ble_eq_true rfl) dJ2_grow_7) w (fun r7 h7 H locs hp7 w => ?_)
  obtain ⟨a1, c1, g1, rfl, hp7⟩ := hp7
  exact ro_retA X w hQ hlk dJ2_grow_10 hr (Or.inr ⟨_, rfl⟩) (by first | exact Or.inr ⟨_, rfl⟩ | exact Or.inl rfl | exact va_rf_or _) (Nat.le_of_ble_eq_true rfl) (Nat.le_of_ble_eq_true rfl) ⟨_, rfl, a1, c1, g1, rfl, hp7⟩
theorem AL.x {G : hp_G} {t x n : Nat} {f : Nat → Option Nat} {h : hp_H} (l : AL G t x n f h) : ∃ m a c g, ALx G t x m a c g n h ∧ ∀ i, i < n → g i = f i := l
theorem mt_J2_add_2 {l : Launch} {G : hp_G} {B : Nat} {h : hp_H} {v : Nat} {t x n a c0 : Nat} {m0 : Int32} {g : Nat → Option Nat} (al : ALx G t x m0 a c0 g n h) (ht : t ≠ 0) (hn2 : n ≤ 200) (ev : EL t h v) (he : ∀ i, i < n → ∀ y, g i = some y → EL t h y) : hp_M l G B yJ2_add_2 cJ2_add_2 4 none 6 1 300 [.ref x, .ref v, .ref a, .int (nI n)] h (hp_V (fun h1 => ∃ a1 c1 g1, ALx G t x m0 a1 c1 g1 (n + 1) h1 ∧ (∀ i, i < n → g1 i = g i) ∧ g1 n = some v ∧ hp_fr (fun q => q = t) h h1)) := by
  refine hp_M.of (by decide) 0 (List.forall_mem_cons.mpr ⟨rfl, (List.forall_mem_cons.mpr ⟨rfl, (List.forall_mem_cons.mpr ⟨rfl, (List.forall_mem_cons.mpr ⟨rfl, (fun _ h => absurd h List.not_mem_nil)⟩)⟩)⟩)⟩) (Nat.le_of_ble_eq_true rfl) ?_
  intro p e s m below meth cd Q ls X hr hlk hnm w hl hQ
  have hl : hp_L ls 4 [some (.ref x), some (.ref v), some (.ref a), some (.int (nI n))] := hl
  have al0 := al
  obtain ⟨hx, hn, hc, ha⟩ := al
  have J : ∀ (a1 c1 : Nat) (g1 : Nat → Option Nat) (h1 : hp_H) (H : Heap) (locs : List Loc) (ls : Array Slot) (cc ss : Nat), cc ≤ 1 → ss ≤ 300 → ALx G t x m0 a1 c1 g1 n h1 → n < c1 → (∀ i, i < n → g1 i = g i) → hp_fr (fun q => q = t) h h1 → hp_Ws G B h1 s H locs → hp_L ls 4 [some (.ref x), some (.ref v), some (.ref a1), some (.int (nI n))] → W p l e (hp_rm 6 1 300) s m ([.ref x, .ref v, .ref a, .int (nI n)] : List Value).toArray below meth cd H locs cc ss Q (F0 m 11 ls []) := by
    intro a1 c1 g1 h1 H locs ls cc ss hcc hss al1 hn1 hg1 fr w hl
    obtain ⟨hx1, -, hc1, ha1⟩ := al1
    have ha1 := (ha1.resolve_left (fun q => by omega)).2
    refine ro_aload_n X hl dJ2_add_2_11 rfl (by first | exact Or.inr ⟨_, rfl⟩ | exact Or.inl rfl | exact va_rf_or _) ?_
    refine ro_iload_n X hl dJ2_add_2_12 rfl ?_
    refine ro_aload_n X hl dJ2_add_2_13 rfl (by first | exact Or.inr ⟨_, rfl⟩ | exact Or.inl rfl | exact va_rf_or _) ?_
    refine ro_aast X w dJ2_add_2_14 (k := 3) (E := "java/lang/Object") rfl ha1 ht (nI_inb hn1 (by omega)) ((ev.fr fr).any w) (fun H locs w => ?_)
    rw [nI_at (by omega)] at w
    have hx2 := hp_up_o (x := (t, hp_aq G 3 c1 (va_up g1 n (some v)))) hx1 ha1 (fun z => by cases z)
    refine ro_aload_n X hl dJ2_add_2_15 rfl (by first | exact Or.inr ⟨_, rfl⟩ | exact Or.inl rfl | exact va_rf_or _) ?_
    refine ro_iload_n X hl dJ2_add_2_16 rfl ?_
    refine lv_iconst (v := 1) X.1 X.2.1 dJ2_add_2_17 (by decide) ?_
    refine lv_iadd X.1 X.2.1 dJ2_add_2_18 ?_
    refine pf_J2_48 X w dJ2_add_2_19 rfl rfl hx2 ht (Nat.le_of_ble_eq_true rfl) (fun H locs w => ?_)
    exact ro_ret0 X w hQ hlk dJ2_add_2_22 hr hcc hss ⟨rfl, a1, c1, va_up g1 n (some v), ⟨by rw [hp_up_s]; show some (t, hp_ob 8 [.int m0, .ref a1, .int (nI n + 1)]) = _; rw [nI_1], by omega, hc1, Or.inr ⟨by omega, (hp_up_n (fun z => hp_ne hx1 ha1 (fun y => by cases y) z.symm)).trans (hp_up_s _ _ _)⟩⟩, fun i hi => ((if_neg (by omega) : va_up g1 n (some v) i = g1 i)).trans (hg1 i hi), if_pos rfl, (fr.tr (hp_fr.up ha1 rfl)).tr (hp_fr.up hx2 rfl)⟩
  refine ro_iload_n X hl dJ2_add_2_0 rfl ?_
  refine ro_aload_n X hl dJ2_add_2_1 rfl (by first | exact Or.inr ⟨_, rfl⟩ | exact Or.inl rfl | exact va_rf_or _) ?_
  have hlen : ∀ (kk : W p l e (hp_rm 6 1 300) s m ([.ref x, .ref v, .ref a, .int (nI n)] : List Value).toArray below meth cd s.heap [] 0 0 Q (F0 m (0 + 1 + 1 + 1) ls (.int (nI c0) :: .int (nI n) :: []))), W p l e (hp_rm 6 1 300) s m ([.ref x, .ref v, .ref a, .int (nI n)] : List Value).toArray below meth cd s.heap [] 0 0 Q (F0 m (0 + 1 + 1) ls (.ref a :: .int (nI n) :: [])) := by
    intro kk
    rcases ha with ⟨e0, ea, ha⟩ | ⟨hc0, ha⟩
    · subst e0
      exact ro_alenc X w dJ2_add_2_2 (k := 3) rfl ha kk
    · exact ro_alenQ X w dJ2_add_2_2 (k := 3) rfl ha kk
  refine hlen ?_
  refine lv_icmp_ne (tgt := 11) X.1 X.2.1 dJ2_add_2_3 (by decide) (fun c3 => ?_) (fun c3 => ?_)
  · exact J a c0 g h _ _ ls _ _ (Nat.le_of_ble_eq_true rfl) (Nat.le_of_ble_eq_true rfl) al0 (by rcases Nat.lt_or_ge n c0 with q | q; exact q; exact absurd (by rw [show n = c0 by omega]) c3) (fun _ _ => rfl) (hp_fr.rf _ _) w hl
  · have c3 : n = c0 := by
      rcases Nat.lt_or_ge n c0 with q | q
      · exact absurd (congrArg (fun z : Int32 => z.toNatClampNeg) c3) (by show ¬ (nI n).toNatClampNeg = (nI c0).toNatClampNeg; rw [nI_at (by omega), nI_at (by omega)]; omega)
      · omega
    refine ro_aload_n X hl dJ2_add_2_6 rfl (by first | exact Or.inr ⟨_, rfl⟩ | exact Or.inl rfl | exact va_rf_or _) ?_
    refine ro_kE (cs_J2_129 X w hx (mt_J2_grow al0 ht c3 hn2 he) rfl rfl hl ⟨⟨Nat.le_of_ble_eq_true rfl, Nat.le_of_ble_eq_true rfl⟩, Nat.le_of_ble_eq_true rfl, Nat.le_of_ble_eq_true rfl⟩ (Nat.le_of_ble_eq_true rfl) dJ2_add_2_7) w (fun r7 h7 H locs hp7 w => ?_)
    obtain ⟨a1, c1, g1, rfl, hal1, hn1, hg1, hfr⟩ := hp7
    refine ro_astore_n X hl dJ2_add_2_10 (by decide) (by first | exact Or.inr ⟨_, rfl⟩ | exact Or.inl rfl | exact va_rf_or _) (fun ls hl => ?_)
    exact J a1 c1 g1 _ _ _ ls _ _ (Nat.le_of_ble_eq_true rfl) (Nat.le_of_ble_eq_true rfl) hal1 hn1 hg1 hfr w hl
theorem mt_J2_add {l : Launch} {G : hp_G} {B : Nat} {h : hp_H} {v : Nat} {t x n : Nat} {f : Nat → Option Nat} (al : AL G t x n f h) (ht : t ≠ 0) (hn2 : n ≤ 200) (ev : EL t h v) (he : ∀ i, i < n → ∀ y, f i = some y → EL t h y) : hp_M l G B yJ2_add cJ2_add 2 (some .boolean) 7 1 300 [.ref x, .ref v] h (hp_I (.int 1) (fun h1 => AL G t x (n + 1) (va_up f n (some v)) h1 ∧ hp_fr (fun q => q = t) h h1)) := by
  refine hp_M.of (by decide) 0 (List.forall_mem_cons.mpr ⟨rfl, (List.forall_mem_cons.mpr ⟨rfl, (fun _ h => absurd h List.not_mem_nil)⟩)⟩) (Nat.le_of_ble_eq_true rfl) ?_
  intro p e s m below meth cd Q ls X hr hlk hnm w hl hQ
  have hl : hp_L ls 2 [some (.ref x), some (.ref v)] := hl
  obtain ⟨m0, a, c0, g, ⟨hx, hn, hc, ha⟩, hg⟩ := al
  refine ro_aload_n X hl dJ2_add_0 rfl (by first | exact Or.inr ⟨_, rfl⟩ | exact Or.inl rfl | exact va_rf_or _) ?_
  refine lv_dup X.1 X.2.1 dJ2_add_1 rfl ?_
  refine gf_J2_63 X w dJ2_add_2 hx rfl ?_
  refine lv_iconst (v := 1) X.1 X.2.1 dJ2_add_5 (by decide) ?_
  refine lv_iadd X.1 X.2.1 dJ2_add_6 ?_
  refine pf_J2_63 X w dJ2_add_7 rfl rfl hx ht (Nat.le_of_ble_eq_true rfl) (fun H locs w => ?_)
  have fr0 : hp_fr (fun q => q = t) h (hp_up h x (t, hp_ob 8 [.int (m0 + 1), .ref a, .int (nI n)])) := hp_fr.up hx rfl
  have hx1 : hp_up h x (t, hp_ob 8 [.int (m0 + 1), .ref a, .int (nI n)]) x = some (t, hp_ob 8 [.int (m0 + 1), .ref a, .int (nI n)]) := hp_up_s _ _ _
  have al1 : ALx G t x (m0 + 1) a c0 g n (hp_up h x (t, hp_ob 8 [.int (m0 + 1), .ref a, .int (nI n)])) := ⟨hx1, hn, hc, ha.imp (fun q => ⟨q.1, q.2.1, hp_up_o q.2.2 hx (fun z => by cases z)⟩) (fun q => ⟨q.1, hp_up_o q.2 hx (fun z => by cases z)⟩)⟩
  replace w : hp_Ws G B (hp_up h x (t, hp_ob 8 [.int (m0 + 1), .ref a, .int (nI n)])) s H _ := w
  refine ro_aload_n X hl dJ2_add_10 rfl (by first | exact Or.inr ⟨_, rfl⟩ | exact Or.inl rfl | exact va_rf_or _) ?_
  refine ro_aload_n X hl dJ2_add_11 rfl (by first | exact Or.inr ⟨_, rfl⟩ | exact Or.inl rfl | exact va_rf_or _) ?_
  refine ro_aload_n X hl dJ2_add_12 rfl (by first | exact Or.inr ⟨_, rfl⟩ | exact Or.inl rfl | exact va_rf_or _) ?_
  refine gf_J2_9 X w dJ2_add_13 hx1 rfl ?_
  refine ro_aload_n X hl dJ2_add_16 rfl (by first | exact Or.inr ⟨_, rfl⟩ | exact Or.inl rfl | exact va_rf_or _) ?_
  refine gf_J2_48 X w dJ2_add_17 hx1 rfl ?_
  refine ro_kV (cs_J2_131 X w hx1 (mt_J2_add_2 al1 ht hn2 (ev.fr fr0) (fun i hi y hy => (he i hi y ((hg i hi).symm.trans hy)).fr fr0)) rfl rfl hl ⟨⟨Nat.le_of_ble_eq_true rfl, Nat.le_of_ble_eq_true rfl⟩, Nat.le_of_ble_eq_true rfl, Nat.le_of_ble_eq_true rfl⟩ (Nat.le_of_ble_eq_true rfl) dJ2_add_20) w (fun h20 H locs hp20 w => ?_)
  obtain ⟨a1, c1, g1, hal1, hg1, hv1, fr1⟩ := hp20
  refine lv_iconst (v := 1) X.1 X.2.1 dJ2_add_23 (by decide) ?_
  exact ro_retI X w hQ hlk dJ2_add_24 hr rfl (Nat.le_of_ble_eq_true rfl) (Nat.le_of_ble_eq_true rfl) ⟨rfl, ⟨m0 + 1, a1, c1, g1, hal1, fun i hi => by
      by_cases e : i = n
      · subst e; exact hv1.trans (if_pos rfl : va_up f i (some v) i = some v).symm
      · exact ((hg1 i (by omega)).trans (hg i (by omega))).trans (if_neg e : va_up f n (some v) i = f i).symm⟩, fr0.tr fr1⟩
theorem mt_J2_fastRemove {l : Launch} {G : hp_G} {B : Nat} {h : hp_H} {t x n a c0 : Nat} {m0 : Int32} {g : Nat → Option Nat} (al : ALx G t x m0 a c0 g (n + 1) h) (ht : t ≠ 0) : hp_M l G B yJ2_fastRemove cJ2_fastRemove 4 none 2 0 0 [.ref x, .ref a, .int (nI n)] h (hp_V (fun h1 => ALx G t x (m0 + 1) a c0 (va_up g n none) n h1 ∧ hp_fr (fun q => q = t) h h1)) := by
  refine hp_M.of (by decide) 1 (List.forall_mem_cons.mpr ⟨rfl, (List.forall_mem_cons.mpr ⟨rfl, (List.forall_mem_cons.mpr ⟨rfl, (fun _ h => absurd h List.not_mem_nil)⟩)⟩)⟩) (Nat.le_of_ble_eq_true rfl) ?_
  intro p e s m below meth cd Q ls X hr hlk hnm w hl hQ
  have hl : hp_L ls 4 [some (.ref x), some (.ref a), some (.int (nI n)), none] := hl
  obtain ⟨hx, hn, hc, ha⟩ := al
  have ha := (ha.resolve_left (fun q => by omega)).2
  have hxa := hp_ne hx ha (fun y => by cases y)
  refine ro_aload_n X hl dJ2_fastRemove_0 rfl (by first | exact Or.inr ⟨_, rfl⟩ | exact Or.inl rfl | exact va_rf_or _) ?_
  refine lv_dup X.1 X.2.1 dJ2_fastRemove_1 rfl ?_
  refine gf_J2_63 X w dJ2_fastRemove_2 hx rfl ?_
  refine lv_iconst (v := 1) X.1 X.2.1 dJ2_fastRemove_5 (by decide) ?_
  refine lv_iadd X.1 X.2.1 dJ2_fastRemove_6 ?_
  refine pf_J2_63 X w dJ2_fastRemove_7 rfl rfl hx ht (Nat.le_of_ble_eq_true rfl) (fun H locs w => ?_)
  have hx1 : hp_up h x (t, hp_ob 8 [.int (m0 + 1), .ref a, .int (nI (n + 1))]) x = some (t, hp_ob 8 [.int (m0 + 1), .ref a, .int (nI (n + 1))]) := hp_up_s _ _ _
  replace w : hp_Ws G B (hp_up h x (t, hp_ob 8 [.int (m0 + 1), .ref a, .int (nI (n + 1))])) s H _ := w
  refine ro_aload_n X hl dJ2_fastRemove_10 rfl (by first | exact Or.inr ⟨_, rfl⟩ | exact Or.inl rfl | exact va_rf_or _) ?_
  refine gf_J2_48 X w dJ2_fastRemove_11 hx1 rfl ?_
  refine lv_iconst (v := 1) X.1 X.2.1 dJ2_fastRemove_14 (by decide) ?_
  refine lv_isub X.1 X.2.1 dJ2_fastRemove_15 ?_
  rw [show nI (n + 1) - 1 = nI n from nI_pred n]
  refine lv_dup X.1 X.2.1 dJ2_fastRemove_16 rfl ?_
  refine ro_istore_n X hl dJ2_fastRemove_17 (by decide) (fun ls hl => ?_)
  refine ro_iload_n X hl dJ2_fastRemove_18 rfl ?_
  refine lv_icmp_le (tgt := 34) X.1 X.2.1 dJ2_fastRemove_19 (by decide) (fun c19 => ?_) (fun c19 => ?_)
  · refine ro_aload_n X hl dJ2_fastRemove_34 rfl (by first | exact Or.inr ⟨_, rfl⟩ | exact Or.inl rfl | exact va_rf_or _) ?_
    refine ro_aload_n X hl dJ2_fastRemove_35 rfl (by first | exact Or.inr ⟨_, rfl⟩ | exact Or.inl rfl | exact va_rf_or _) ?_
    refine ro_iload_n X hl dJ2_fastRemove_36 rfl ?_
    refine lv_dup_x1 X.1 X.2.1 dJ2_fastRemove_37 rfl rfl ?_
    refine pf_J2_48 X w dJ2_fastRemove_38 rfl rfl hx1 ht (Nat.le_of_ble_eq_true rfl) (fun H locs w => ?_)
    rw [hp_up_up] at w
    have ha1 : hp_up h x (t, hp_ob 8 (([.int (m0 + 1), .ref a, .int (nI (n + 1))] : List Value).set 2 (.int (nI n)))) a = some (t, hp_aq G 3 c0 g) := hp_up_o ha hx (fun z => by cases z)
    refine lv_null X.1 X.2.1 dJ2_fastRemove_41 ?_
    refine ro_aastN X w dJ2_fastRemove_42 (k := 3) (E := "java/lang/Object") rfl ha1 ht (nI_inb (by omega) (by omega)) (fun H locs w => ?_)
    rw [nI_at (by omega)] at w
    exact ro_ret0 X w hQ hlk dJ2_fastRemove_43 hr (Nat.le_of_ble_eq_true rfl) (Nat.le_of_ble_eq_true rfl) ⟨rfl, ⟨(hp_up_n hxa).trans (hp_up_s _ _ _), by omega, hc, Or.inr ⟨by omega, hp_up_s _ _ _⟩⟩, (hp_fu hx).tr (hp_fu ha1)⟩
  · exact absurd (Int32.le_refl _) c19
theorem mt_J2_remove {l : Launch} {G : hp_G} {B : Nat} {h : hp_H} {t x n : Nat} {f : Nat → Option Nat} (al : AL G t x (n + 1) f h) (ht : t ≠ 0) : hp_M l G B yJ2_remove cJ2_remove 4 (some (.object "java/lang/Object")) 3 0 0 [.ref x, .int (nI n)] h (hp_I (va_rf (f n)) (fun h1 => AL G t x n f h1 ∧ hp_fr (fun q => q = t) h h1)) := by
  refine hp_M.of (by decide) 2 (List.forall_mem_cons.mpr ⟨rfl, (List.forall_mem_cons.mpr ⟨rfl, (fun _ h => absurd h List.not_mem_nil)⟩)⟩) (Nat.le_of_ble_eq_true rfl) ?_
  intro p e s m below meth cd Q ls X hr hlk hnm w hl hQ
  have hl : hp_L ls 4 [some (.ref x), some (.int (nI n)), none, none] := hl
  obtain ⟨m0, a, c0, g, ⟨hx, hn, hc, ha⟩, hg⟩ := al
  have al0 : ALx G t x m0 a c0 g (n + 1) h := ⟨hx, hn, hc, ha⟩
  have ha := (ha.resolve_left (fun q => by omega)).2
  have h0 : ¬ nI n < 0 := nI_pos (by omega)
  have h1 : nI n < nI (n + 1) := (nI_ltI (by omega) (by omega)).mpr (by omega)
  refine ro_iload_n X hl dJ2_remove_0 rfl ?_
  refine ro_aload_n X hl dJ2_remove_1 rfl (by first | exact Or.inr ⟨_, rfl⟩ | exact Or.inl rfl | exact va_rf_or _) ?_
  refine gf_J2_48 X w dJ2_remove_2 hx rfl ?_
  refine ro_kJ (cs_J2_118 X w (mt_J17_checkIndex h0 h1) rfl rfl hl ⟨⟨Nat.le_of_ble_eq_true rfl, Nat.le_of_ble_eq_true rfl⟩, Nat.le_of_ble_eq_true rfl, Nat.le_of_ble_eq_true rfl⟩ (Nat.le_of_ble_eq_true rfl) dJ2_remove_5) w (fun H locs w => ?_)
  refine lv_pop X.1 X.2.1 dJ2_remove_8 rfl ?_
  refine ro_aload_n X hl dJ2_remove_9 rfl (by first | exact Or.inr ⟨_, rfl⟩ | exact Or.inl rfl | exact va_rf_or _) ?_
  refine gf_J2_9 X w dJ2_remove_10 hx rfl ?_
  refine ro_astore_n X hl dJ2_remove_13 (by decide) (by first | exact Or.inr ⟨_, rfl⟩ | exact Or.inl rfl | exact va_rf_or _) (fun ls hl => ?_)
  refine ro_aload_n X hl dJ2_remove_14 rfl (by first | exact Or.inr ⟨_, rfl⟩ | exact Or.inl rfl | exact va_rf_or _) ?_
  refine ro_iload_n X hl dJ2_remove_15 rfl ?_
  refine ro_aald X w dJ2_remove_16 (k := 3) (C := "java/lang/Object") rfl ha (nI_inb (by omega) (by omega)) ?_
  rw [show (nI n).toNatClampNeg = n from nI_at (by omega)]
  rw [hg n (by omega)]
  refine ro_astore_n X hl dJ2_remove_17 (by decide) (by first | exact Or.inr ⟨_, rfl⟩ | exact Or.inl rfl | exact va_rf_or _) (fun ls hl => ?_)
  refine ro_aload_n X hl dJ2_remove_18 rfl (by first | exact Or.inr ⟨_, rfl⟩ | exact Or.inl rfl | exact va_rf_or _) ?_
  refine ro_aload_n X hl dJ2_remove_19 rfl (by first | exact Or.inr ⟨_, rfl⟩ | exact Or.inl rfl | exact va_rf_or _) ?_
  refine ro_iload_n X hl dJ2_remove_20 rfl ?_
  refine ro_kV (cs_J2_144 X w hx (mt_J2_fastRemove al0 ht) rfl rfl hl ⟨⟨Nat.le_of_ble_eq_true rfl, Nat.le_of_ble_eq_true rfl⟩, Nat.le_of_ble_eq_true rfl, Nat.le_of_ble_eq_true rfl⟩ (Nat.le_of_ble_eq_true rfl) dJ2_remove_21) w (fun h21 H locs hp21 w => ?_)
  refine ro_aload_n X hl dJ2_remove_24 rfl (by first | exact Or.inr ⟨_, rfl⟩ | exact Or.inl rfl | exact va_rf_or _) ?_
  exact ro_retA X w hQ hlk dJ2_remove_25 hr (Or.inl ⟨_, rfl⟩) (by first | exact Or.inr ⟨_, rfl⟩ | exact Or.inl rfl | exact va_rf_or _) (Nat.le_of_ble_eq_true rfl) (Nat.le_of_ble_eq_true rfl) ⟨rfl, ⟨_, _, _, _, hp21.1, fun i hi => (if_neg (by omega) : va_up g n none i = g i).trans (hg i (by omega))⟩, hp21.2⟩
