/-! LINKEDHASHMAP: small members (printed by tools/m22.py) -/
set_option maxRecDepth 100000
theorem hm_nr (z : String) (q : Option Nat) : narrow (.object z) (va_rf q) = va_rf q := by cases q <;> rfl
theorem hm_ft (z : String) (q : Option Nat) : fits (.object z) (va_rf q) = true := by cases q <;> rfl
theorem mt_X6_init {l : Launch} {G : hp_G} {B : Nat} {h : hp_H} {x t : Nat} {se pl : Int32} (hx : h x = some (t, hp_ob 5 [.int 0, .int 0])) (ht : t ≠ 0) : hp_M l G B yX6_init cX6_init 3 none 1 0 0 [.ref x, .int se, .int pl] h (hp_V (fun h1 => h1 = hp_up h x (t, hp_ob 5 [.int se, .int pl]))) := by
  refine hp_M.of (by decide) 0 (List.forall_mem_cons.mpr ⟨rfl, (List.forall_mem_cons.mpr ⟨rfl, (List.forall_mem_cons.mpr ⟨rfl, (fun _ h => absurd h List.not_mem_nil)⟩)⟩)⟩) (Nat.le_of_ble_eq_true rfl) ?_
  intro p e s m below meth cd Q ls X hr hlk hnm w hl hQ
  have hl : hp_L ls 3 [some (.ref x), some (.int se), some (.int pl)] := hl
  refine ro_aload_n X hl dX6_init_0 rfl (by first | exact Or.inr ⟨_, rfl⟩ | exact Or.inl rfl | exact va_rf_or _) ?_
  refine ro_oi X hl q601 dX6_init_1 (Nat.le_of_ble_eq_true rfl) (Nat.le_of_ble_eq_true rfl) (Nat.le_of_ble_eq_true rfl) ?_
  refine ro_aload_n X hl dX6_init_4 rfl (by first | exact Or.inr ⟨_, rfl⟩ | exact Or.inl rfl | exact va_rf_or _) ?_
  refine ro_iload_n X hl dX6_init_5 rfl ?_
  refine pf_X6_9 X w dX6_init_6 hnm rfl rfl hx ht (Nat.le_of_ble_eq_true rfl) (fun H locs w => ?_)
  refine ro_aload_n X hl dX6_init_9 rfl (by first | exact Or.inr ⟨_, rfl⟩ | exact Or.inl rfl | exact va_rf_or _) ?_
  refine ro_iload_n X hl dX6_init_10 rfl ?_
  refine pf_X6_15 X w dX6_init_11 hnm rfl rfl (hp_up_s _ _ _) ht (Nat.le_of_ble_eq_true rfl) (fun H locs w => ?_)
  rw [hp_up_up] at w
  exact ro_ret0 X w hQ hlk dX6_init_14 hr (Nat.le_of_ble_eq_true rfl) (Nat.le_of_ble_eq_true rfl) ⟨rfl, rfl⟩
theorem mt_X6_hashCode {l : Launch} {G : hp_G} {B : Nat} {h : hp_H} {x t : Nat} {se pl : Int32} (hx : h x = some (t, hp_ob 5 [.int se, .int pl])) : hp_M l G B yX6_hashCode cX6_hashCode 1 (some .int) 1 0 0 [.ref x] h (hp_J h (.int (4 * se + pl))) := by
  refine hp_M.of (by decide) 0 (List.forall_mem_cons.mpr ⟨rfl, (fun _ h => absurd h List.not_mem_nil)⟩) (Nat.le_of_ble_eq_true rfl) ?_
  intro p e s m below meth cd Q ls X hr hlk hnm w hl hQ
  have hl : hp_L ls 1 [some (.ref x)] := hl
  refine lv_iconst (v := 4) X.1 X.2.1 dX6_hashCode_0 (by decide) ?_
  refine ro_aload_n X hl dX6_hashCode_1 rfl (by first | exact Or.inr ⟨_, rfl⟩ | exact Or.inl rfl | exact va_rf_or _) ?_
  refine gf_X6_9 X w dX6_hashCode_2 hx rfl ?_
  refine lv_imul X.1 X.2.1 dX6_hashCode_5 ?_
  refine ro_aload_n X hl dX6_hashCode_6 rfl (by first | exact Or.inr ⟨_, rfl⟩ | exact Or.inl rfl | exact va_rf_or _) ?_
  refine gf_X6_15 X w dX6_hashCode_7 hx rfl ?_
  refine lv_iadd X.1 X.2.1 dX6_hashCode_10 ?_
  exact ro_retI X w hQ hlk dX6_hashCode_11 hr rfl (Nat.le_of_ble_eq_true rfl) (Nat.le_of_ble_eq_true rfl) ⟨hp_vi (by rfl), rfl⟩
theorem mt_X6_equals {l : Launch} {G : hp_G} {B : Nat} {h : hp_H} {x t y t2 : Nat} {se pl : Int32} (hx : h x = some (t, hp_ob 5 [.int se, .int pl])) (hy : h y = some (t2, hp_ob 5 [.int se, .int pl])) : hp_M l G B yX6_equals cX6_equals 2 (some .boolean) 1 0 0 [.ref x, .ref y] h (hp_J h (.int 1)) := by
  refine hp_M.of (by decide) 0 (List.forall_mem_cons.mpr ⟨rfl, (List.forall_mem_cons.mpr ⟨rfl, (fun _ h => absurd h List.not_mem_nil)⟩)⟩) (Nat.le_of_ble_eq_true rfl) ?_
  intro p e s m below meth cd Q ls X hr hlk hnm w hl hQ
  have hl : hp_L ls 2 [some (.ref x), some (.ref y)] := hl
  refine ro_aload_n X hl dX6_equals_0 rfl (by first | exact Or.inr ⟨_, rfl⟩ | exact Or.inl rfl | exact va_rf_or _) ?_
  refine ro_instS X w (ci := 5) rfl q1310 dX6_equals_1 hy ?_
  refine lv_if_eq (tgt := 39) X.1 X.2.1 dX6_equals_4 (by decide) (fun c4 => ?_) (fun c4 => ?_)
  · exact absurd c4 (by decide)
  · refine ro_aload_n X hl dX6_equals_7 rfl (by first | exact Or.inr ⟨_, rfl⟩ | exact Or.inl rfl | exact va_rf_or _) ?_
    refine ro_castS X w (ci := 5) rfl q1310 dX6_equals_8 hy ?_
    refine gf_X6_9 X w dX6_equals_11 hy rfl ?_
    refine ro_aload_n X hl dX6_equals_14 rfl (by first | exact Or.inr ⟨_, rfl⟩ | exact Or.inl rfl | exact va_rf_or _) ?_
    refine gf_X6_9 X w dX6_equals_15 hx rfl ?_
    refine lv_icmp_ne (tgt := 39) X.1 X.2.1 dX6_equals_18 (by decide) (fun c18 => ?_) (fun c18 => ?_)
    · exact absurd rfl c18
    · refine ro_aload_n X hl dX6_equals_21 rfl (by first | exact Or.inr ⟨_, rfl⟩ | exact Or.inl rfl | exact va_rf_or _) ?_
      refine ro_castS X w (ci := 5) rfl q1310 dX6_equals_22 hy ?_
      refine gf_X6_15 X w dX6_equals_25 hy rfl ?_
      refine ro_aload_n X hl dX6_equals_28 rfl (by first | exact Or.inr ⟨_, rfl⟩ | exact Or.inl rfl | exact va_rf_or _) ?_
      refine gf_X6_15 X w dX6_equals_29 hx rfl ?_
      refine lv_icmp_ne (tgt := 39) X.1 X.2.1 dX6_equals_32 (by decide) (fun c32 => ?_) (fun c32 => ?_)
      · exact absurd rfl c32
      · refine lv_iconst (v := 1) X.1 X.2.1 dX6_equals_35 (by decide) ?_
        refine lv_goto (tgt := 40) X.1 X.2.1 dX6_equals_36 (by decide) ?_
        exact ro_retI X w hQ hlk dX6_equals_40 hr rfl (Nat.le_of_ble_eq_true rfl) (Nat.le_of_ble_eq_true rfl) ⟨hp_vi (by rfl), rfl⟩
theorem mt_J4_hash {l : Launch} {G : hp_G} {B : Nat} {h : hp_H} {x t : Nat} {se pl : Int32} {k : Nat} (hx : h x = some (t, hp_ob 5 [.int se, .int pl])) (hk : 4 * se + pl = nI k) (hk2 : k < 64) : hp_M l G B yJ4_hash cJ4_hash 2 (some .int) 2 0 0 [.ref x] h (hp_J h (.int (nI k))) := by
  refine hp_M.of (by decide) 1 (List.forall_mem_cons.mpr ⟨rfl, (fun _ h => absurd h List.not_mem_nil)⟩) (Nat.le_of_ble_eq_true rfl) ?_
  intro p e s m below meth cd Q ls X hr hlk hnm w hl hQ
  have hl : hp_L ls 2 [some (.ref x), none] := hl
  refine ro_aload_n X hl dJ4_hash_0 rfl (by first | exact Or.inr ⟨_, rfl⟩ | exact Or.inl rfl | exact va_rf_or _) ?_
  refine ro_ifnonnull X (some x) (tgt := 8) dJ4_hash_1 (by decide) (fun z hz => ?_) (fun hz => by cases hz)
  cases hz
  refine ro_aload_n X hl dJ4_hash_8 rfl (by first | exact Or.inr ⟨_, rfl⟩ | exact Or.inl rfl | exact va_rf_or _) ?_
  refine ro_kJ (cs_J4_1_X6 X w hx (mt_X6_hashCode hx) rfl rfl hl ⟨⟨Nat.le_of_ble_eq_true rfl, Nat.le_of_ble_eq_true rfl⟩, Nat.le_of_ble_eq_true rfl, Nat.le_of_ble_eq_true rfl⟩ (Nat.le_of_ble_eq_true rfl) dJ4_hash_9) w (fun H locs w => ?_)
  refine lv_dup X.1 X.2.1 dJ4_hash_12 rfl ?_
  refine ro_istore_n X hl dJ4_hash_13 (by decide) (fun ls hl => ?_)
  refine ro_iload_n X hl dJ4_hash_14 rfl ?_
  refine lv_bipush (v := 16) X.1 X.2.1 dJ4_hash_15 (by decide) ?_
  refine lv_iushr (v := nI 0) X.1 X.2.1 dJ4_hash_17 (by rw [hk]; exact (pk_ushrN (n := k) (by omega) 16 16 rfl).trans (congrArg nI (Nat.div_eq_of_lt (by omega)))) ?_
  refine lv_ixor X.1 X.2.1 dJ4_hash_18 ?_
  exact ro_retI X w hQ hlk dJ4_hash_19 hr rfl (Nat.le_of_ble_eq_true rfl) (Nat.le_of_ble_eq_true rfl) ⟨hp_vi (by rw [hk]; exact hm_hash hk2), rfl⟩
theorem mt_J3_init {l : Launch} {G : hp_G} {B : Nat} {h : hp_H} {x : Nat} : hp_M l G B yJ3_init cJ3_init 1 none 1 0 0 [.ref x] h (hp_J0 h) := by
  refine hp_M.of (by decide) 0 (List.forall_mem_cons.mpr ⟨rfl, (fun _ h => absurd h List.not_mem_nil)⟩) (Nat.le_of_ble_eq_true rfl) ?_
  intro p e s m below meth cd Q ls X hr hlk hnm w hl hQ
  have hl : hp_L ls 1 [some (.ref x)] := hl
  refine ro_aload_n X hl dJ3_init_0 rfl (by first | exact Or.inr ⟨_, rfl⟩ | exact Or.inl rfl | exact va_rf_or _) ?_
  refine ro_oi X hl q138 dJ3_init_1 (Nat.le_of_ble_eq_true rfl) (Nat.le_of_ble_eq_true rfl) (Nat.le_of_ble_eq_true rfl) ?_
  exact ro_ret0 X w hQ hlk dJ3_init_4 hr (Nat.le_of_ble_eq_true rfl) (Nat.le_of_ble_eq_true rfl) ⟨rfl, rfl⟩
theorem mt_J4_init {l : Launch} {G : hp_G} {B : Nat} {h : hp_H} {x t : Nat} (hx : h x = some (t, hp_ob 9 [.null, .null, .int 0, .int 0, .int 0, .float 0, .null, .null, .null, .null, .int 0, .int 0])) (ht : t ≠ 0) : hp_M l G B yJ4_init cJ4_init 1 none 2 0 0 [.ref x] h (hp_V (fun h1 => h1 = hp_up h x (t, hp_ob 9 [.null, .null, .int 0, .int 0, .int 0, .float 1061158912, .null, .null, .null, .null, .int 0, .int 0]))) := by
  refine hp_M.of (by decide) 0 (List.forall_mem_cons.mpr ⟨rfl, (fun _ h => absurd h List.not_mem_nil)⟩) (Nat.le_of_ble_eq_true rfl) ?_
  intro p e s m below meth cd Q ls X hr hlk hnm w hl hQ
  have hl : hp_L ls 1 [some (.ref x)] := hl
  refine ro_aload_n X hl dJ4_init_0 rfl (by first | exact Or.inr ⟨_, rfl⟩ | exact Or.inl rfl | exact va_rf_or _) ?_
  refine ro_kJ0 (cs_J4_43 X w (mt_J3_init (x := x)) rfl rfl hl ⟨⟨Nat.le_of_ble_eq_true rfl, Nat.le_of_ble_eq_true rfl⟩, Nat.le_of_ble_eq_true rfl, Nat.le_of_ble_eq_true rfl⟩ (Nat.le_of_ble_eq_true rfl) dJ4_init_1) w (fun H locs w => ?_)
  refine ro_aload_n X hl dJ4_init_4 rfl (by first | exact Or.inr ⟨_, rfl⟩ | exact Or.inl rfl | exact va_rf_or _) ?_
  refine lv_ldcf (v := 1061158912) X.1 X.2.1 X.2.2.2.1 (X.2.2.2.2 _ q139) dJ4_init_5 ?_
  refine pf_J4_81 X w dJ4_init_7 hnm rfl rfl hx ht (Nat.le_of_ble_eq_true rfl) (fun H locs w => ?_)
  exact ro_ret0 X w hQ hlk dJ4_init_10 hr (Nat.le_of_ble_eq_true rfl) (Nat.le_of_ble_eq_true rfl) ⟨rfl, rfl⟩
theorem mt_J5_init {l : Launch} {G : hp_G} {B : Nat} {h : hp_H} {x t : Nat} {hs ky vl ea : Nat → Nat} (hx : h x = some (t, hp_ob 9 [.null, .null, .int 0, .int 0, .int 0, .float 0, .null, .null, .null, .null, .int 0, .int 0])) (ht : t ≠ 0) : hp_M l G B yJ5_init cJ5_init 1 none 3 0 0 [.ref x] h (hp_V (fun h1 => LM G t x 0 none hs ky vl ea h1 ∧ hp_fr (fun q => q = t) h h1)) := by
  refine hp_M.of (by decide) 0 (List.forall_mem_cons.mpr ⟨rfl, (fun _ h => absurd h List.not_mem_nil)⟩) (Nat.le_of_ble_eq_true rfl) ?_
  intro p e s m below meth cd Q ls X hr hlk hnm w hl hQ
  have hl : hp_L ls 1 [some (.ref x)] := hl
  refine ro_aload_n X hl dJ5_init_0 rfl (by first | exact Or.inr ⟨_, rfl⟩ | exact Or.inl rfl | exact va_rf_or _) ?_
  refine ro_kV (cs_J5_87 X w (mt_J4_init hx ht) rfl rfl hl ⟨⟨Nat.le_of_ble_eq_true rfl, Nat.le_of_ble_eq_true rfl⟩, Nat.le_of_ble_eq_true rfl, Nat.le_of_ble_eq_true rfl⟩ (Nat.le_of_ble_eq_true rfl) dJ5_init_1) w (fun h1 H locs hp1 w => ?_)
  subst hp1
  refine ro_aload_n X hl dJ5_init_4 rfl (by first | exact Or.inr ⟨_, rfl⟩ | exact Or.inl rfl | exact va_rf_or _) ?_
  refine lv_iconst (v := 0) X.1 X.2.1 dJ5_init_5 (by decide) ?_
  refine pf_J5_1 X w dJ5_init_6 rfl rfl (hp_up_s _ _ _) ht (Nat.le_of_ble_eq_true rfl) (fun H locs w => ?_)
  rw [hp_up_up] at w
  refine ro_aload_n X hl dJ5_init_9 rfl (by first | exact Or.inr ⟨_, rfl⟩ | exact Or.inl rfl | exact va_rf_or _) ?_
  refine lv_iconst (v := 0) X.1 X.2.1 dJ5_init_10 (by decide) ?_
  refine pf_J5_64 X w dJ5_init_11 hnm rfl rfl (hp_up_s _ _ _) ht (Nat.le_of_ble_eq_true rfl) (fun H locs w => ?_)
  rw [hp_up_up] at w
  exact ro_ret0 X w hQ hlk dJ5_init_14 hr (Nat.le_of_ble_eq_true rfl) (Nat.le_of_ble_eq_true rfl) ⟨rfl, ⟨none, 0, fun _ => none, 0, 0, fun _ => none, ⟨hp_up_s _ _ _, fun i hi => absurd hi (Nat.not_lt_zero i), fun a ha => (by cases ha), fun i j hi => absurd hi (Nat.not_lt_zero i)⟩, Or.inl ⟨rfl, rfl, rfl⟩⟩, hp_fu hx⟩
theorem mt_J4_size {l : Launch} {G : hp_G} {B : Nat} {h : hp_H} {x t n : Nat} {vals : Option Nat} {hs ky vl ea : Nat → Nat} (lm : LM G t x n vals hs ky vl ea h) : hp_M l G B yJ4_size cJ4_size 1 (some .int) 1 0 0 [.ref x] h (hp_J h (.int (nI n))) := by
  refine hp_M.of (by decide) 0 (List.forall_mem_cons.mpr ⟨rfl, (fun _ h => absurd h List.not_mem_nil)⟩) (Nat.le_of_ble_eq_true rfl) ?_
  intro p e s m below meth cd Q ls X hr hlk hnm w hl hQ
  have hl : hp_L ls 1 [some (.ref x)] := hl
  obtain ⟨tb, cap, T, m0, th, N, le, hht⟩ := lm
  refine ro_aload_n X hl dJ4_size_0 rfl (by first | exact Or.inr ⟨_, rfl⟩ | exact Or.inl rfl | exact va_rf_or _) ?_
  refine gf_J4_156 X w dJ4_size_1 le.o rfl ?_
  exact ro_retI X w hQ hlk dJ4_size_4 hr rfl (Nat.le_of_ble_eq_true rfl) (Nat.le_of_ble_eq_true rfl) ⟨hp_vi (by rfl), rfl⟩
theorem mt_J26_init {l : Launch} {G : hp_G} {B : Nat} {h : hp_H} {a t k v : Nat} {hh : Int32} {nx : Option Nat} (hx : h a = some (t, hp_ob 10 [.int 0, .null, .null, .null, .null, .null])) (ht : t ≠ 0) : hp_M l G B yJ26_init cJ26_init 5 none 1 0 0 [.ref a, .int hh, .ref k, .ref v, va_rf nx] h (hp_V (fun h1 => h1 = hp_up h a (t, hp_ob 10 [.int hh, .ref k, .ref v, va_rf nx, .null, .null]))) := by
  refine hp_M.of (by decide) 0 (List.forall_mem_cons.mpr ⟨rfl, (List.forall_mem_cons.mpr ⟨rfl, (List.forall_mem_cons.mpr ⟨rfl, (List.forall_mem_cons.mpr ⟨rfl, (List.forall_mem_cons.mpr ⟨(hp_rf1 _), (fun _ h => absurd h List.not_mem_nil)⟩)⟩)⟩)⟩)⟩) (by cases nx <;> exact Nat.le_of_ble_eq_true rfl) ?_
  intro p e s m below meth cd Q ls X hr hlk hnm w hl hQ
  have hl : hp_L ls 5 [some (.ref a), some (.int hh), some (.ref k), some (.ref v), some (va_rf nx)] := hl
  refine ro_aload_n X hl dJ26_init_0 rfl (by first | exact Or.inr ⟨_, rfl⟩ | exact Or.inl rfl | exact va_rf_or _) ?_
  refine ro_oi X hl q1027 dJ26_init_1 (Nat.le_of_ble_eq_true rfl) (Nat.le_of_ble_eq_true rfl) (Nat.le_of_ble_eq_true rfl) ?_
  refine ro_aload_n X hl dJ26_init_4 rfl (by first | exact Or.inr ⟨_, rfl⟩ | exact Or.inl rfl | exact va_rf_or _) ?_
  refine ro_iload_n X hl dJ26_init_5 rfl ?_
  refine pf_J26_7 X w dJ26_init_6 hnm rfl rfl hx ht (Nat.le_of_ble_eq_true rfl) (fun H locs w => ?_)
  refine ro_aload_n X hl dJ26_init_9 rfl (by first | exact Or.inr ⟨_, rfl⟩ | exact Or.inl rfl | exact va_rf_or _) ?_
  refine ro_aload_n X hl dJ26_init_10 rfl (by first | exact Or.inr ⟨_, rfl⟩ | exact Or.inl rfl | exact va_rf_or _) ?_
  refine pf_J26_13 X w dJ26_init_11 hnm rfl rfl (hp_up_s _ _ _) ht (Nat.le_of_ble_eq_true rfl) (fun H locs w => ?_)
  rw [hp_up_up] at w
  refine ro_aload_n X hl dJ26_init_14 rfl (by first | exact Or.inr ⟨_, rfl⟩ | exact Or.inl rfl | exact va_rf_or _) ?_
  refine ro_aload_n X hl dJ26_init_15 rfl (by first | exact Or.inr ⟨_, rfl⟩ | exact Or.inl rfl | exact va_rf_or _) ?_
  refine pf_J26_17 X w dJ26_init_16 rfl rfl (hp_up_s _ _ _) ht (Nat.le_of_ble_eq_true rfl) (fun H locs w => ?_)
  rw [hp_up_up] at w
  refine ro_aload_n X hl dJ26_init_19 rfl (by first | exact Or.inr ⟨_, rfl⟩ | exact Or.inl rfl | exact va_rf_or _) ?_
  refine ro_aload X hl dJ26_init_20 rfl (by first | exact Or.inr ⟨_, rfl⟩ | exact Or.inl rfl | exact va_rf_or _) ?_
  refine pf_J26_20 X w dJ26_init_22 (hm_nr _ nx) (hm_ft _ nx) (hp_up_s _ _ _) ht (Nat.le_of_ble_eq_true rfl) (fun H locs w => ?_)
  rw [hp_up_up] at w
  exact ro_ret0 X w hQ hlk dJ26_init_25 hr (Nat.le_of_ble_eq_true rfl) (Nat.le_of_ble_eq_true rfl) ⟨rfl, rfl⟩
theorem mt_J27_init {l : Launch} {G : hp_G} {B : Nat} {h : hp_H} {a t k v : Nat} {hh : Int32} {nx : Option Nat} (hx : h a = some (t, hp_ob 10 [.int 0, .null, .null, .null, .null, .null])) (ht : t ≠ 0) : hp_M l G B yJ27_init cJ27_init 5 none 2 0 0 [.ref a, .int hh, .ref k, .ref v, va_rf nx] h (hp_V (fun h1 => h1 = hp_up h a (t, hp_ob 10 [.int hh, .ref k, .ref v, va_rf nx, .null, .null]))) := by
  refine hp_M.of (by decide) 0 (List.forall_mem_cons.mpr ⟨rfl, (List.forall_mem_cons.mpr ⟨rfl, (List.forall_mem_cons.mpr ⟨rfl, (List.forall_mem_cons.mpr ⟨rfl, (List.forall_mem_cons.mpr ⟨(hp_rf1 _), (fun _ h => absurd h List.not_mem_nil)⟩)⟩)⟩)⟩)⟩) (by cases nx <;> exact Nat.le_of_ble_eq_true rfl) ?_
  intro p e s m below meth cd Q ls X hr hlk hnm w hl hQ
  have hl : hp_L ls 5 [some (.ref a), some (.int hh), some (.ref k), some (.ref v), some (va_rf nx)] := hl
  refine ro_aload_n X hl dJ27_init_0 rfl (by first | exact Or.inr ⟨_, rfl⟩ | exact Or.inl rfl | exact va_rf_or _) ?_
  refine ro_iload_n X hl dJ27_init_1 rfl ?_
  refine ro_aload_n X hl dJ27_init_2 rfl (by first | exact Or.inr ⟨_, rfl⟩ | exact Or.inl rfl | exact va_rf_or _) ?_
  refine ro_aload_n X hl dJ27_init_3 rfl (by first | exact Or.inr ⟨_, rfl⟩ | exact Or.inl rfl | exact va_rf_or _) ?_
  refine ro_aload X hl dJ27_init_4 rfl (by first | exact Or.inr ⟨_, rfl⟩ | exact Or.inl rfl | exact va_rf_or _) ?_
  refine ro_kV (cs_J27_1 X w (mt_J26_init hx ht) rfl rfl hl ⟨⟨Nat.le_of_ble_eq_true rfl, Nat.le_of_ble_eq_true rfl⟩, Nat.le_of_ble_eq_true rfl, Nat.le_of_ble_eq_true rfl⟩ (Nat.le_of_ble_eq_true rfl) dJ27_init_6) w (fun h6 H locs hp6 w => ?_)
  exact ro_ret0 X w hQ hlk dJ27_init_9 hr (Nat.le_of_ble_eq_true rfl) (Nat.le_of_ble_eq_true rfl) ⟨rfl, hp6⟩
