/-! LINKEDHASHMAP: values, iterator (printed by tools/m27.py) -/
set_option maxRecDepth 100000
theorem mt_J31_init {l : Launch} {G : hp_G} {B : Nat} {h : hp_H} {v x t : Nat} (hx : h v = some (t, hp_ob 11 [.int 0, .null])) (ht : t ≠ 0) : hp_M l G B yJ31_init cJ31_init 3 none 2 0 0 [.ref v, .ref x, .int 0] h (hp_V (fun h1 => h1 = hp_up h v (t, hp_ob 11 [.int 0, .ref x]))) := by
  refine hp_M.of (by decide) 0 (List.forall_mem_cons.mpr ⟨rfl, (List.forall_mem_cons.mpr ⟨rfl, (List.forall_mem_cons.mpr ⟨rfl, (fun _ h => absurd h List.not_mem_nil)⟩)⟩)⟩) (Nat.le_of_ble_eq_true rfl) ?_
  intro p e s m below meth cd Q ls X hr hlk hnm w hl hQ
  have hl : hp_L ls 3 [some (.ref v), some (.ref x), some (.int 0)] := hl
  refine ro_aload_n X hl dJ31_init_0 rfl (by first | exact Or.inr ⟨_, rfl⟩ | exact Or.inl rfl | exact va_rf_or _) ?_
  refine ro_aload_n X hl dJ31_init_1 rfl (by first | exact Or.inr ⟨_, rfl⟩ | exact Or.inl rfl | exact va_rf_or _) ?_
  refine pf_J31_1 X w dJ31_init_2 hnm rfl rfl hx ht (Nat.le_of_ble_eq_true rfl) (fun H locs w => ?_)
  refine ro_aload_n X hl dJ31_init_5 rfl (by first | exact Or.inr ⟨_, rfl⟩ | exact Or.inl rfl | exact va_rf_or _) ?_
  refine ro_kJ0 (cs_J31_7 X w (mt_J0_init (x := v)) rfl rfl hl ⟨⟨Nat.le_of_ble_eq_true rfl, Nat.le_of_ble_eq_true rfl⟩, Nat.le_of_ble_eq_true rfl, Nat.le_of_ble_eq_true rfl⟩ (Nat.le_of_ble_eq_true rfl) dJ31_init_6) w (fun H locs w => ?_)
  refine ro_aload_n X hl dJ31_init_9 rfl (by first | exact Or.inr ⟨_, rfl⟩ | exact Or.inl rfl | exact va_rf_or _) ?_
  refine ro_iload_n X hl dJ31_init_10 rfl ?_
  refine pf_J31_13 X w dJ31_init_11 hnm rfl rfl (hp_up_s _ _ _) ht (Nat.le_of_ble_eq_true rfl) (fun H locs w => ?_)
  rw [hp_up_up] at w
  exact ro_ret0 X w hQ hlk dJ31_init_14 hr (Nat.le_of_ble_eq_true rfl) (Nat.le_of_ble_eq_true rfl) ⟨rfl, rfl⟩
theorem mt_J5_sequencedValues {l : Launch} {G : hp_G} {B : Nat} {h : hp_H} {x t tv n : Nat} {vals : Option Nat} {hs ky vl ea : Nat → Nat} (lm : LM G t x n vals hs ky vl ea h) (ht : t ≠ 0) (htv : tv ≠ 0) (htt : tv ≠ t) (hv : ∀ a, vals = some a → h a = some (tv, hp_ob 11 [.int 0, .ref x])) : hp_M l G B yJ5_sequencedValues cJ5_sequencedValues 3 (some (.object "java/util/SequencedCollection")) 3 1 2 [.ref x] h (hp_E (fun r h1 => ∃ a, r = .ref a ∧ LM G t x n (some a) hs ky vl ea h1 ∧ h1 a = some (tv, hp_ob 11 [.int 0, .ref x]) ∧ hp_fr (fun q => q = t) h h1)) := by
  refine hp_M.of (by decide) 2 (List.forall_mem_cons.mpr ⟨rfl, (fun _ h => absurd h List.not_mem_nil)⟩) (Nat.le_of_ble_eq_true rfl) ?_
  intro p e s m below meth cd Q ls X hr hlk hnm w hl hQ
  have hl : hp_L ls 3 [some (.ref x), none, none] := hl
  obtain ⟨tb, cap, T, m0, th, N, le, hht⟩ := lm
  refine ro_aload_n X hl dJ5_sequencedValues_0 rfl (by first | exact Or.inr ⟨_, rfl⟩ | exact Or.inl rfl | exact va_rf_or _) ?_
  refine gf_J5_139 X w dJ5_sequencedValues_1 le.o rfl ?_
  refine ro_astore_n X hl dJ5_sequencedValues_4 (by decide) (by first | exact Or.inr ⟨_, rfl⟩ | exact Or.inl rfl | exact va_rf_or _) (fun ls hl => ?_)
  refine ro_aload_n X hl dJ5_sequencedValues_5 rfl (by first | exact Or.inr ⟨_, rfl⟩ | exact Or.inl rfl | exact va_rf_or _) ?_
  cases vals with
  | none =>
    refine lv_ifnonnullN X.1 X.2.1 dJ5_sequencedValues_6 ?_
    refine nw_J5_143 X w dJ5_sequencedValues_9 tv htv ⟨Nat.le_of_ble_eq_true rfl, Nat.le_of_ble_eq_true rfl⟩ (fun a H hq w => ?_)
    have ha1 := hp_up_s h a (tv, hp_ob 11 [.int 0, .null])
    refine lv_dup X.1 X.2.1 dJ5_sequencedValues_12 rfl ?_
    refine ro_aload_n X hl dJ5_sequencedValues_13 rfl (by first | exact Or.inr ⟨_, rfl⟩ | exact Or.inl rfl | exact va_rf_or _) ?_
    refine lv_iconst (v := 0) X.1 X.2.1 dJ5_sequencedValues_14 (by decide) ?_
    refine ro_kV (cs_J5_145 X w (mt_J31_init ha1 htv) rfl rfl hl ⟨⟨Nat.le_of_ble_eq_true rfl, Nat.le_of_ble_eq_true rfl⟩, Nat.le_of_ble_eq_true rfl, Nat.le_of_ble_eq_true rfl⟩ (Nat.le_of_ble_eq_true rfl) dJ5_sequencedValues_15) w (fun h15 H locs hp15 w => ?_)
    subst hp15
    rw [hp_up_up] at w
    refine ro_astore_n X hl dJ5_sequencedValues_18 (by decide) (by first | exact Or.inr ⟨_, rfl⟩ | exact Or.inl rfl | exact va_rf_or _) (fun ls hl => ?_)
    refine ro_aload_n X hl dJ5_sequencedValues_19 rfl (by first | exact Or.inr ⟨_, rfl⟩ | exact Or.inl rfl | exact va_rf_or _) ?_
    refine ro_aload_n X hl dJ5_sequencedValues_20 rfl (by first | exact Or.inr ⟨_, rfl⟩ | exact Or.inl rfl | exact va_rf_or _) ?_
    have le1 := le.fresh (q := a) (y := (tv, hp_ob 11 [.int 0, .ref x])) hq
    refine pf_J5_139 X w dJ5_sequencedValues_21 rfl rfl le1.o ht (Nat.le_of_ble_eq_true rfl) (fun H locs w => ?_)
    have le2 := le1.own (n' := n) (m' := m0) (th' := th) (vals' := some a) (L := (hm_o tb n m0 th none (hm_hd n ea) (hm_tl n ea)).set 7 (.ref a)) rfl
    refine ro_aload_n X hl dJ5_sequencedValues_24 rfl (by first | exact Or.inr ⟨_, rfl⟩ | exact Or.inl rfl | exact va_rf_or _) ?_
    exact ro_retA X w hQ hlk dJ5_sequencedValues_25 hr (Or.inl ⟨_, rfl⟩) (by first | exact Or.inr ⟨_, rfl⟩ | exact Or.inl rfl | exact va_rf_or _) (Nat.le_of_ble_eq_true rfl) (Nat.le_of_ble_eq_true rfl) ⟨_, rfl, a, rfl, ⟨tb, cap, T, m0, th, N, le2, hht⟩, (hp_up_n (hp_ne_t (hp_up_s _ _ _) le1.o htt)).trans (hp_up_s _ _ _), (hp_ff hq).tr (hp_fu le1.o)⟩
  | some a =>
    have hva := hv a rfl
    refine lv_ifnonnull (tgt := 26) X.1 X.2.1 dJ5_sequencedValues_6 (by decide) ?_
    refine ro_aload_n X hl dJ5_sequencedValues_26 rfl (by first | exact Or.inr ⟨_, rfl⟩ | exact Or.inl rfl | exact va_rf_or _) ?_
    refine ro_castY X w (C := "java/util/LinkedHashMap$LinkedValues") q1444 q2080 dJ5_sequencedValues_27 (hp_recv (ci := 11) w rfl hva) ?_
    exact ro_retA X w hQ hlk dJ5_sequencedValues_30 hr (Or.inl ⟨_, rfl⟩) (by first | exact Or.inr ⟨_, rfl⟩ | exact Or.inl rfl | exact va_rf_or _) (Nat.le_of_ble_eq_true rfl) (Nat.le_of_ble_eq_true rfl) ⟨_, rfl, a, rfl, ⟨tb, cap, T, m0, th, N, le, hht⟩, hva, hp_fr.rf _ _⟩
theorem mt_J5_values {l : Launch} {G : hp_G} {B : Nat} {h : hp_H} {x t tv n : Nat} {vals : Option Nat} {hs ky vl ea : Nat → Nat} (lm : LM G t x n vals hs ky vl ea h) (ht : t ≠ 0) (htv : tv ≠ 0) (htt : tv ≠ t) (hv : ∀ a, vals = some a → h a = some (tv, hp_ob 11 [.int 0, .ref x])) : hp_M l G B yJ5_values cJ5_values 1 (some (.object "java/util/Collection")) 4 1 2 [.ref x] h (hp_E (fun r h1 => ∃ a, r = .ref a ∧ LM G t x n (some a) hs ky vl ea h1 ∧ h1 a = some (tv, hp_ob 11 [.int 0, .ref x]) ∧ hp_fr (fun q => q = t) h h1)) := by
  refine hp_M.of (by decide) 0 (List.forall_mem_cons.mpr ⟨rfl, (fun _ h => absurd h List.not_mem_nil)⟩) (Nat.le_of_ble_eq_true rfl) ?_
  intro p e s m below meth cd Q ls X hr hlk hnm w hl hQ
  have hl : hp_L ls 1 [some (.ref x)] := hl
  obtain ⟨fs0, ho⟩ := lm.o
  refine ro_aload_n X hl dJ5_values_0 rfl (by first | exact Or.inr ⟨_, rfl⟩ | exact Or.inl rfl | exact va_rf_or _) ?_
  refine ro_kE (cs_J5_135 X w ho (mt_J5_sequencedValues lm ht htv htt hv) rfl rfl hl ⟨⟨Nat.le_of_ble_eq_true rfl, Nat.le_of_ble_eq_true rfl⟩, Nat.le_of_ble_eq_true rfl, Nat.le_of_ble_eq_true rfl⟩ (Nat.le_of_ble_eq_true rfl) dJ5_values_1) w (fun r1 h1 H locs hp1 w => ?_)
  obtain ⟨a, rfl, hp1⟩ := hp1
  exact ro_retA X w hQ hlk dJ5_values_4 hr (Or.inl ⟨_, rfl⟩) (by first | exact Or.inr ⟨_, rfl⟩ | exact Or.inl rfl | exact va_rf_or _) (Nat.le_of_ble_eq_true rfl) (Nat.le_of_ble_eq_true rfl) ⟨_, rfl, a, rfl, hp1⟩
def it_n (k n : Nat) (ea : Nat → Nat) : Option Nat := if k < n then some (ea k) else none
theorem it_hd (n : Nat) (ea : Nat → Nat) : hm_hd n ea = it_n 0 n ea := by
  unfold hm_hd it_n
  cases n with
  | zero => rfl
  | succ n => rw [if_neg (by omega), if_pos (by omega)]
theorem mt_J33_init {l : Launch} {G : hp_G} {B : Nat} {h : hp_H} {it x t ti n cap th : Nat} {tb vals : Option Nat} {T N : Nat → Option Nat} {m0 : Int32} {hs ky vl ea : Nat → Nat} (le : LE G t x n n tb cap T m0 th vals N hs ky vl ea h) (ht : ti ≠ 0) (hx : h it = some (ti, hp_ob 12 [.null, .null, .int 0, .int 0, .null])) (hti : it ≠ x) : hp_M l G B yJ33_init cJ33_init 3 none 2 0 0 [.ref it, .ref x, .int 0] h (hp_V (fun h1 => h1 = hp_up h it (ti, hp_ob 12 [va_rf (it_n 0 n ea), .null, .int m0, .int 0, .ref x]))) := by
  refine hp_M.of (by decide) 0 (List.forall_mem_cons.mpr ⟨rfl, (List.forall_mem_cons.mpr ⟨rfl, (List.forall_mem_cons.mpr ⟨rfl, (fun _ h => absurd h List.not_mem_nil)⟩)⟩)⟩) (Nat.le_of_ble_eq_true rfl) ?_
  intro p e s m below meth cd Q ls X hr hlk hnm w hl hQ
  have hl : hp_L ls 3 [some (.ref it), some (.ref x), some (.int 0)] := hl
  refine ro_aload_n X hl dJ33_init_0 rfl (by first | exact Or.inr ⟨_, rfl⟩ | exact Or.inl rfl | exact va_rf_or _) ?_
  refine ro_aload_n X hl dJ33_init_1 rfl (by first | exact Or.inr ⟨_, rfl⟩ | exact Or.inl rfl | exact va_rf_or _) ?_
  refine pf_J33_1 X w dJ33_init_2 hnm rfl rfl hx ht (Nat.le_of_ble_eq_true rfl) (fun H locs w => ?_)
  refine ro_aload_n X hl dJ33_init_5 rfl (by first | exact Or.inr ⟨_, rfl⟩ | exact Or.inl rfl | exact va_rf_or _) ?_
  refine ro_oi X hl q1488 dJ33_init_6 (Nat.le_of_ble_eq_true rfl) (Nat.le_of_ble_eq_true rfl) (Nat.le_of_ble_eq_true rfl) ?_
  refine ro_aload_n X hl dJ33_init_9 rfl (by first | exact Or.inr ⟨_, rfl⟩ | exact Or.inl rfl | exact va_rf_or _) ?_
  refine ro_iload_n X hl dJ33_init_10 rfl ?_
  refine pf_J33_13 X w dJ33_init_11 rfl rfl (hp_up_s _ _ _) ht (Nat.le_of_ble_eq_true rfl) (fun H locs w => ?_)
  rw [hp_up_up] at w
  refine ro_aload_n X hl dJ33_init_14 rfl (by first | exact Or.inr ⟨_, rfl⟩ | exact Or.inl rfl | exact va_rf_or _) ?_
  refine ro_iload_n X hl dJ33_init_15 rfl ?_
  refine lv_if_eq (tgt := 26) X.1 X.2.1 dJ33_init_16 (by decide) (fun c16 => ?_) (fun c16 => ?_)
  · refine ro_aload_n X hl dJ33_init_26 rfl (by first | exact Or.inr ⟨_, rfl⟩ | exact Or.inl rfl | exact va_rf_or _) ?_
    refine gf_J33_23 X w dJ33_init_27 ((hp_up_n hti.symm).trans le.o) rfl ?_
    refine pf_J33_26 X w dJ33_init_30 (hm_nr _ _) (hm_ft _ _) (hp_up_s _ _ _) ht (Nat.le_of_ble_eq_true rfl) (fun H locs w => ?_)
    rw [hp_up_up] at w
    refine ro_aload_n X hl dJ33_init_33 rfl (by first | exact Or.inr ⟨_, rfl⟩ | exact Or.inl rfl | exact va_rf_or _) ?_
    refine ro_aload_n X hl dJ33_init_34 rfl (by first | exact Or.inr ⟨_, rfl⟩ | exact Or.inl rfl | exact va_rf_or _) ?_
    refine gf_J33_29 X w dJ33_init_35 ((hp_up_n hti.symm).trans le.o) rfl ?_
    refine pf_J33_33 X w dJ33_init_38 rfl rfl (hp_up_s _ _ _) ht (Nat.le_of_ble_eq_true rfl) (fun H locs w => ?_)
    rw [hp_up_up] at w
    refine ro_aload_n X hl dJ33_init_41 rfl (by first | exact Or.inr ⟨_, rfl⟩ | exact Or.inl rfl | exact va_rf_or _) ?_
    refine lv_null X.1 X.2.1 dJ33_init_42 ?_
    refine pf_J33_36 X w dJ33_init_43 rfl rfl (hp_up_s _ _ _) ht (Nat.le_of_ble_eq_true rfl) (fun H locs w => ?_)
    rw [hp_up_up] at w
    exact ro_ret0 X w hQ hlk dJ33_init_46 hr (Nat.le_of_ble_eq_true rfl) (Nat.le_of_ble_eq_true rfl) ⟨rfl, by rw [← it_hd]; rfl⟩
  · exact absurd rfl c16
theorem mt_J34_init {l : Launch} {G : hp_G} {B : Nat} {h : hp_H} {it x t ti n cap th : Nat} {tb vals : Option Nat} {T N : Nat → Option Nat} {m0 : Int32} {hs ky vl ea : Nat → Nat} (le : LE G t x n n tb cap T m0 th vals N hs ky vl ea h) (ht : ti ≠ 0) (hx : h it = some (ti, hp_ob 12 [.null, .null, .int 0, .int 0, .null])) (hti : it ≠ x) : hp_M l G B yJ34_init cJ34_init 3 none 3 0 0 [.ref it, .ref x, .int 0] h (hp_V (fun h1 => h1 = hp_up h it (ti, hp_ob 12 [va_rf (it_n 0 n ea), .null, .int m0, .int 0, .ref x]))) := by
  refine hp_M.of (by decide) 0 (List.forall_mem_cons.mpr ⟨rfl, (List.forall_mem_cons.mpr ⟨rfl, (List.forall_mem_cons.mpr ⟨rfl, (fun _ h => absurd h List.not_mem_nil)⟩)⟩)⟩) (Nat.le_of_ble_eq_true rfl) ?_
  intro p e s m below meth cd Q ls X hr hlk hnm w hl hQ
  have hl : hp_L ls 3 [some (.ref it), some (.ref x), some (.int 0)] := hl
  refine ro_aload_n X hl dJ34_init_0 rfl (by first | exact Or.inr ⟨_, rfl⟩ | exact Or.inl rfl | exact va_rf_or _) ?_
  refine ro_aload_n X hl dJ34_init_1 rfl (by first | exact Or.inr ⟨_, rfl⟩ | exact Or.inl rfl | exact va_rf_or _) ?_
  refine ro_iload_n X hl dJ34_init_2 rfl ?_
  refine ro_kV (cs_J34_1 X w (mt_J33_init le ht hx hti) rfl rfl hl ⟨⟨Nat.le_of_ble_eq_true rfl, Nat.le_of_ble_eq_true rfl⟩, Nat.le_of_ble_eq_true rfl, Nat.le_of_ble_eq_true rfl⟩ (Nat.le_of_ble_eq_true rfl) dJ34_init_3) w (fun h3 H locs hp3 w => ?_)
  exact ro_ret0 X w hQ hlk dJ34_init_6 hr (Nat.le_of_ble_eq_true rfl) (Nat.le_of_ble_eq_true rfl) ⟨rfl, hp3⟩
theorem mt_J31_iterator {l : Launch} {G : hp_G} {B : Nat} {h : hp_H} {v x t ti tv n cap th : Nat} {tb vals : Option Nat} {T N : Nat → Option Nat} {m0 : Int32} {hs ky vl ea : Nat → Nat} (le : LE G t x n n tb cap T m0 th vals N hs ky vl ea h) (ht : ti ≠ 0) (hv : h v = some (tv, hp_ob 11 [.int 0, .ref x])) : hp_M l G B yJ31_iterator cJ31_iterator 1 (some (.object "java/util/Iterator")) 4 1 5 [.ref v] h (hp_E (fun r h1 => ∃ it, r = .ref it ∧ h it = none ∧ h1 = hp_up h it (ti, hp_ob 12 [va_rf (it_n 0 n ea), .null, .int m0, .int 0, .ref x]))) := by
  refine hp_M.of (by decide) 0 (List.forall_mem_cons.mpr ⟨rfl, (fun _ h => absurd h List.not_mem_nil)⟩) (Nat.le_of_ble_eq_true rfl) ?_
  intro p e s m below meth cd Q ls X hr hlk hnm w hl hQ
  have hl : hp_L ls 1 [some (.ref v)] := hl
  refine nw_J31_26 X w dJ31_iterator_0 ti ht ⟨Nat.le_of_ble_eq_true rfl, Nat.le_of_ble_eq_true rfl⟩ (fun it H hq w => ?_)
  have hi1 := hp_up_s h it (ti, hp_ob 12 [.null, .null, .int 0, .int 0, .null])
  have le1 := le.fresh (q := it) (y := (ti, hp_ob 12 [.null, .null, .int 0, .int 0, .null])) hq
  refine lv_dup X.1 X.2.1 dJ31_iterator_3 rfl ?_
  refine ro_aload_n X hl dJ31_iterator_4 rfl (by first | exact Or.inr ⟨_, rfl⟩ | exact Or.inl rfl | exact va_rf_or _) ?_
  refine gf_J31_1 X w dJ31_iterator_5 (hp_up_f hv hq) rfl ?_
  refine ro_aload_n X hl dJ31_iterator_8 rfl (by first | exact Or.inr ⟨_, rfl⟩ | exact Or.inl rfl | exact va_rf_or _) ?_
  refine gf_J31_13 X w dJ31_iterator_9 (hp_up_f hv hq) rfl ?_
  refine ro_kV (cs_J31_28 X w (mt_J34_init le1 ht hi1 (fun z => hp_ne_f le.o hq z.symm)) rfl rfl hl ⟨⟨Nat.le_of_ble_eq_true rfl, Nat.le_of_ble_eq_true rfl⟩, Nat.le_of_ble_eq_true rfl, Nat.le_of_ble_eq_true rfl⟩ (Nat.le_of_ble_eq_true rfl) dJ31_iterator_12) w (fun h12 H locs hp12 w => ?_)
  subst hp12
  rw [hp_up_up] at w
  exact ro_retA X w hQ hlk dJ31_iterator_15 hr (Or.inl ⟨_, rfl⟩) (by first | exact Or.inr ⟨_, rfl⟩ | exact Or.inl rfl | exact va_rf_or _) (Nat.le_of_ble_eq_true rfl) (Nat.le_of_ble_eq_true rfl) ⟨_, rfl, it, rfl, hq, rfl⟩
theorem mt_J33_hasNext {l : Launch} {G : hp_G} {B : Nat} {h : hp_H} {it x ti n k : Nat} {m0 : Int32} {cu : Option Nat} {ea : Nat → Nat} (hit : h it = some (ti, hp_ob 12 [va_rf (it_n k n ea), va_rf cu, .int m0, .int 0, .ref x])) : hp_M l G B yJ33_hasNext cJ33_hasNext 1 (some .boolean) 1 0 0 [.ref it] h (hp_J h (.int (bz (k < n)))) := by
  refine hp_M.of (by decide) 0 (List.forall_mem_cons.mpr ⟨rfl, (fun _ h => absurd h List.not_mem_nil)⟩) (Nat.le_of_ble_eq_true rfl) ?_
  intro p e s m below meth cd Q ls X hr hlk hnm w hl hQ
  have hl : hp_L ls 1 [some (.ref it)] := hl
  refine ro_aload_n X hl dJ33_hasNext_0 rfl (by first | exact Or.inr ⟨_, rfl⟩ | exact Or.inl rfl | exact va_rf_or _) ?_
  refine gf_J33_26 X w dJ33_hasNext_1 hit rfl ?_
  refine ro_ifnull X (it_n k n ea) (tgt := 11) dJ33_hasNext_4 (by decide) (fun hz => ?_) (fun z hz => ?_)
  · have hk : ¬ k < n := fun q => by unfold it_n at hz; rw [if_pos q] at hz; cases hz
    refine lv_iconst (v := 0) X.1 X.2.1 dJ33_hasNext_11 (by decide) ?_
    exact ro_retI X w hQ hlk dJ33_hasNext_12 hr rfl (Nat.le_of_ble_eq_true rfl) (Nat.le_of_ble_eq_true rfl) ⟨hp_vi (by first | exact (bz_t hk).symm | exact (bz_f hk).symm), rfl⟩
  · have hk : k < n := Decidable.byContradiction (fun q => by unfold it_n at hz; rw [if_neg q] at hz; cases hz)
    refine lv_iconst (v := 1) X.1 X.2.1 dJ33_hasNext_7 (by decide) ?_
    refine lv_goto (tgt := 12) X.1 X.2.1 dJ33_hasNext_8 (by decide) ?_
    exact ro_retI X w hQ hlk dJ33_hasNext_12 hr rfl (Nat.le_of_ble_eq_true rfl) (Nat.le_of_ble_eq_true rfl) ⟨hp_vi (by first | exact (bz_t hk).symm | exact (bz_f hk).symm), rfl⟩
theorem mt_J33_nextNode {l : Launch} {G : hp_G} {B : Nat} {h : hp_H} {it x t ti n k cap th : Nat} {tb vals cu : Option Nat} {T N : Nat → Option Nat} {m0 : Int32} {hs ky vl ea : Nat → Nat} (le : LE G t x n n tb cap T m0 th vals N hs ky vl ea h) (ht : ti ≠ 0) (hit : h it = some (ti, hp_ob 12 [va_rf (it_n k n ea), va_rf cu, .int m0, .int 0, .ref x])) (hk : k < n) : hp_M l G B yJ33_nextNode cJ33_nextNode 2 (some (.object "java/util/LinkedHashMap$Entry")) 1 0 0 [.ref it] h (hp_I (.ref (ea k)) (fun h1 => h1 = hp_up h it (ti, hp_ob 12 [va_rf (it_n (k + 1) n ea), .ref (ea k), .int m0, .int 0, .ref x]))) := by
  refine hp_M.of (by decide) 1 (List.forall_mem_cons.mpr ⟨rfl, (fun _ h => absurd h List.not_mem_nil)⟩) (Nat.le_of_ble_eq_true rfl) ?_
  intro p e s m below meth cd Q ls X hr hlk hnm w hl hQ
  have hl : hp_L ls 2 [some (.ref it), none] := hl
  have hnx : it_n k n ea = some (ea k) := if_pos hk
  rw [hnx] at hit
  have hek := le.e k hk
  have htx : it ≠ x := hp_ne_c hit le.o (by decide)
  have hte : it ≠ ea k := hp_ne_c hit hek (by decide)
  refine ro_aload_n X hl dJ33_nextNode_0 rfl (by first | exact Or.inr ⟨_, rfl⟩ | exact Or.inl rfl | exact va_rf_or _) ?_
  refine gf_J33_26 X w dJ33_nextNode_1 hit rfl ?_
  refine ro_astore_n X hl dJ33_nextNode_4 (by decide) (by first | exact Or.inr ⟨_, rfl⟩ | exact Or.inl rfl | exact va_rf_or _) (fun ls hl => ?_)
  refine ro_aload_n X hl dJ33_nextNode_5 rfl (by first | exact Or.inr ⟨_, rfl⟩ | exact Or.inl rfl | exact va_rf_or _) ?_
  refine gf_J33_1 X w dJ33_nextNode_6 hit rfl ?_
  refine gf_J33_29 X w dJ33_nextNode_9 le.o rfl ?_
  refine ro_aload_n X hl dJ33_nextNode_12 rfl (by first | exact Or.inr ⟨_, rfl⟩ | exact Or.inl rfl | exact va_rf_or _) ?_
  refine gf_J33_33 X w dJ33_nextNode_13 hit rfl ?_
  refine lv_icmp_eq (tgt := 27) X.1 X.2.1 dJ33_nextNode_16 (by decide) (fun c16 => ?_) (fun c16 => ?_)
  · refine ro_aload_n X hl dJ33_nextNode_27 rfl (by first | exact Or.inr ⟨_, rfl⟩ | exact Or.inl rfl | exact va_rf_or _) ?_
    refine lv_ifnonnull (tgt := 39) X.1 X.2.1 dJ33_nextNode_28 (by decide) ?_
    refine ro_aload_n X hl dJ33_nextNode_39 rfl (by first | exact Or.inr ⟨_, rfl⟩ | exact Or.inl rfl | exact va_rf_or _) ?_
    refine ro_aload_n X hl dJ33_nextNode_40 rfl (by first | exact Or.inr ⟨_, rfl⟩ | exact Or.inl rfl | exact va_rf_or _) ?_
    refine pf_J33_36 X w dJ33_nextNode_41 rfl rfl hit ht (Nat.le_of_ble_eq_true rfl) (fun H locs w => ?_)
    refine ro_aload_n X hl dJ33_nextNode_44 rfl (by first | exact Or.inr ⟨_, rfl⟩ | exact Or.inl rfl | exact va_rf_or _) ?_
    refine ro_aload_n X hl dJ33_nextNode_45 rfl (by first | exact Or.inr ⟨_, rfl⟩ | exact Or.inl rfl | exact va_rf_or _) ?_
    refine gf_J33_13 X w dJ33_nextNode_46 (hp_up_s _ _ _) rfl ?_
    refine lv_if_eq (tgt := 59) X.1 X.2.1 dJ33_nextNode_49 (by decide) (fun c49 => ?_) (fun c49 => ?_)
    · refine ro_aload_n X hl dJ33_nextNode_59 rfl (by first | exact Or.inr ⟨_, rfl⟩ | exact Or.inl rfl | exact va_rf_or _) ?_
      refine gf_J33_50 X w dJ33_nextNode_60 ((hp_up_n hte.symm).trans hek) rfl ?_
      refine pf_J33_26 X w dJ33_nextNode_63 (hm_nr _ _) (hm_ft _ _) (hp_up_s _ _ _) ht (Nat.le_of_ble_eq_true rfl) (fun H locs w => ?_)
      rw [hp_up_up] at w
      refine ro_aload_n X hl dJ33_nextNode_66 rfl (by first | exact Or.inr ⟨_, rfl⟩ | exact Or.inl rfl | exact va_rf_or _) ?_
      exact ro_retA X w hQ hlk dJ33_nextNode_67 hr (Or.inl ⟨_, rfl⟩) (by first | exact Or.inr ⟨_, rfl⟩ | exact Or.inl rfl | exact va_rf_or _) (Nat.le_of_ble_eq_true rfl) (Nat.le_of_ble_eq_true rfl) ⟨rfl, rfl⟩
    · exact absurd rfl c49
  · exact absurd rfl c16
theorem mt_J34_next {l : Launch} {G : hp_G} {B : Nat} {h : hp_H} {it x t ti n k cap th : Nat} {tb vals cu : Option Nat} {T N : Nat → Option Nat} {m0 : Int32} {hs ky vl ea : Nat → Nat} (le : LE G t x n n tb cap T m0 th vals N hs ky vl ea h) (ht : ti ≠ 0) (hit : h it = some (ti, hp_ob 12 [va_rf (it_n k n ea), va_rf cu, .int m0, .int 0, .ref x])) (hk : k < n) : hp_M l G B yJ34_next cJ34_next 1 (some (.object "java/lang/Object")) 2 0 0 [.ref it] h (hp_I (.ref (vl k)) (fun h1 => h1 = hp_up h it (ti, hp_ob 12 [va_rf (it_n (k + 1) n ea), .ref (ea k), .int m0, .int 0, .ref x]))) := by
  refine hp_M.of (by decide) 0 (List.forall_mem_cons.mpr ⟨rfl, (fun _ h => absurd h List.not_mem_nil)⟩) (Nat.le_of_ble_eq_true rfl) ?_
  intro p e s m below meth cd Q ls X hr hlk hnm w hl hQ
  have hl : hp_L ls 1 [some (.ref it)] := hl
  have hek := le.e k hk
  have hte : it ≠ ea k := hp_ne_c hit hek (by decide)
  refine ro_aload_n X hl dJ34_next_0 rfl (by first | exact Or.inr ⟨_, rfl⟩ | exact Or.inl rfl | exact va_rf_or _) ?_
  refine ro_kI (cs_J34_7 X w hit (mt_J33_nextNode le ht hit hk) rfl rfl hl ⟨⟨Nat.le_of_ble_eq_true rfl, Nat.le_of_ble_eq_true rfl⟩, Nat.le_of_ble_eq_true rfl, Nat.le_of_ble_eq_true rfl⟩ (Nat.le_of_ble_eq_true rfl) dJ34_next_1) w (fun h1 H locs hp1 w => ?_)
  subst hp1
  refine gf_J34_13 X w dJ34_next_4 ((hp_up_n hte.symm).trans hek) rfl ?_
  exact ro_retA X w hQ hlk dJ34_next_7 hr (Or.inl ⟨_, rfl⟩) (by first | exact Or.inr ⟨_, rfl⟩ | exact Or.inl rfl | exact va_rf_or _) (Nat.le_of_ble_eq_true rfl) (Nat.le_of_ble_eq_true rfl) ⟨rfl, rfl⟩
