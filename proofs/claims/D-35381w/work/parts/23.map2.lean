/-! LINKEDHASHMAP: a new entry; looking up (printed by tools/m23.py) -/
set_option maxRecDepth 100000
theorem va_up_s {α : Type} (f : Nat → α) (k : Nat) (v : α) : va_up f k v k = v := if_pos rfl
theorem va_up_n {α : Type} (f : Nat → α) {k j : Nat} (v : α) (h : j ≠ k) : va_up f k v j = f j := if_neg h
/-- the new one is linked behind the others -/
theorem LE.link {G : hp_G} {t x c n cap th : Nat} {tb vals : Option Nat} {T N : Nat → Option Nat} {m0 : Int32} {hs ky vl ea : Nat → Nat} {h : hp_H} (l : LE G t x c n tb cap T m0 th vals N hs ky vl ea h) {q : Nat} (hq : h q = some (t, hp_ob 10 (hm_e (hs c) (ky c) (vl c) none none none))) (hd : ∀ i, i < c → ea i ≠ q) (hN : ∀ i, i < c → ∀ j, N i = some j → j < c) {h1 : hp_H}
    (hx : h1 x = some (t, hp_ob 9 (hm_o tb n m0 th vals (some (if c = 0 then q else ea 0)) (some q)))) (hq1 : h1 q = some (t, hp_ob 10 (hm_e (hs c) (ky c) (vl c) none (hm_tl c ea) none)))
    (hk : ∀ k, c = k + 1 → h1 (ea k) = some (t, hp_ob 10 (hm_e (hs k) (ky k) (vl k) ((N k).map ea) (hm_bf k ea) (some q)))) (ho : ∀ a, a ≠ x → a ≠ q → (∀ k, c = k + 1 → a ≠ ea k) → h1 a = h a) : LE G t x (c + 1) n tb cap T m0 th vals (va_up N c none) hs ky vl (va_up ea c q) h1 := by
  have hmp : ∀ i, i < c → (N i).map (va_up ea c q) = (N i).map ea := by
    intro i hi
    cases e : N i with
    | none => rfl
    | some j => exact congrArg some (va_up_n ea q (by have := hN i hi j e; omega))
  have hbf : ∀ i, i ≤ c → hm_bf i (va_up ea c q) = hm_bf i ea := by
    intro i hi
    unfold hm_bf
    by_cases z : i = 0
    · rw [if_pos z, if_pos z]
    · rw [if_neg z, if_neg z, va_up_n ea q (by omega)]
  refine ⟨?_, fun i hi => ?_, fun a ha => ?_, fun i j hi hj e => ?_⟩
  · rw [hx]
    congr 4
    · rw [show hm_hd (c + 1) (va_up ea c q) = some (va_up ea c q 0) from if_neg (by omega)]
      by_cases z : c = 0
      · subst z; rw [if_pos rfl, va_up_s]
      · rw [if_neg z, va_up_n ea q (by omega)]
    · unfold hm_tl
      rw [if_neg (by omega), Nat.add_sub_cancel, va_up_s]
  · by_cases z : i = c
    · subst z
      rw [va_up_s, hq1, va_up_s, hbf i (Nat.le_refl _)]
      unfold hm_af
      rw [if_neg (by omega)]
      unfold hm_tl hm_bf
      rfl
    · have hi2 : i < c := by omega
      rw [va_up_n ea q z, va_up_n N none z, hmp i hi2, hbf i (by omega)]
      by_cases z2 : c = i + 1
      · rw [hk i z2]
        unfold hm_af
        rw [if_pos (by omega), show i + 1 = c by omega, va_up_s]
      · rw [ho (ea i) (fun y => hp_ne_c (l.e i hi2) l.o (by decide) y) (hd i hi2) (fun k hk y => by have := l.inj i k hi2 (by omega) y; omega), l.e i hi2]
        unfold hm_af
        rw [if_pos (by omega), if_pos (by omega), va_up_n ea q (by omega)]
  · have ha0 := l.tt a ha
    rw [ho a (hp_ne ha0 l.o (fun y => by cases y)) (hp_ne ha0 hq (fun y => by cases y)) (fun k hk => hp_ne ha0 (l.e k (by omega)) (fun y => by cases y))]
    exact ha0
  · by_cases zi : i = c
    · by_cases zj : j = c
      · omega
      · subst zi
        rw [va_up_s, va_up_n ea q zj] at e
        exact absurd e.symm (hd j (by omega))
    · by_cases zj : j = c
      · subst zj
        rw [va_up_s, va_up_n ea q zi] at e
        exact absurd e (hd i (by omega))
      · rw [va_up_n ea q zi, va_up_n ea q zj] at e
        exact l.inj i j (by omega) (by omega) e
theorem mt_J5_linkNodeAtEnd {l : Launch} {G : hp_G} {B : Nat} {h : hp_H} {t x c n cap th : Nat} {tb vals : Option Nat} {T N : Nat → Option Nat} {m0 : Int32} {hs ky vl ea : Nat → Nat} {q : Nat} (le : LE G t x c n tb cap T m0 th vals N hs ky vl ea h) (ht : t ≠ 0) (hq : h q = some (t, hp_ob 10 (hm_e (hs c) (ky c) (vl c) none none none))) (hd : ∀ i, i < c → ea i ≠ q) (hN : ∀ i, i < c → ∀ j, N i = some j → j < c) : hp_M l G B yJ5_linkNodeAtEnd cJ5_linkNodeAtEnd 3 none 1 0 0 [.ref x, .ref q] h (hp_V (fun h1 => LE G t x (c + 1) n tb cap T m0 th vals (va_up N c none) hs ky vl (va_up ea c q) h1 ∧ hp_fr (fun q => q = t) h h1)) := by
  refine hp_M.of (by decide) 1 (List.forall_mem_cons.mpr ⟨rfl, (List.forall_mem_cons.mpr ⟨rfl, (fun _ h => absurd h List.not_mem_nil)⟩)⟩) (Nat.le_of_ble_eq_true rfl) ?_
  intro p e s m below meth cd Q ls X hr hlk hnm w hl hQ
  have hl : hp_L ls 3 [some (.ref x), some (.ref q), none] := hl
  have hx := le.o
  have hxq : x ≠ q := hp_ne_c hx hq (by decide)
  refine ro_aload_n X hl dJ5_linkNodeAtEnd_0 rfl (by first | exact Or.inr ⟨_, rfl⟩ | exact Or.inl rfl | exact va_rf_or _) ?_
  refine gf_J5_1 X w dJ5_linkNodeAtEnd_1 hx rfl ?_
  refine lv_iconst (v := 1) X.1 X.2.1 dJ5_linkNodeAtEnd_4 (by decide) ?_
  refine lv_icmp_ne (tgt := 43) X.1 X.2.1 dJ5_linkNodeAtEnd_5 (by decide) (fun c5 => ?_) (fun c5 => ?_)
  · refine ro_aload_n X hl dJ5_linkNodeAtEnd_43 rfl (by first | exact Or.inr ⟨_, rfl⟩ | exact Or.inl rfl | exact va_rf_or _) ?_
    refine gf_J5_11 X w dJ5_linkNodeAtEnd_44 hx rfl ?_
    refine ro_astore_n X hl dJ5_linkNodeAtEnd_47 (by decide) (by first | exact Or.inr ⟨_, rfl⟩ | exact Or.inl rfl | exact va_rf_or _) (fun ls hl => ?_)
    refine ro_aload_n X hl dJ5_linkNodeAtEnd_48 rfl (by first | exact Or.inr ⟨_, rfl⟩ | exact Or.inl rfl | exact va_rf_or _) ?_
    refine ro_aload_n X hl dJ5_linkNodeAtEnd_49 rfl (by first | exact Or.inr ⟨_, rfl⟩ | exact Or.inl rfl | exact va_rf_or _) ?_
    refine pf_J5_11 X w dJ5_linkNodeAtEnd_50 rfl rfl hx ht (Nat.le_of_ble_eq_true rfl) (fun H locs w => ?_)
    have hx1 : hp_up h x (t, hp_ob 9 (hm_o tb n m0 th vals (hm_hd c ea) (some q))) x = some (t, hp_ob 9 (hm_o tb n m0 th vals (hm_hd c ea) (some q))) := hp_up_s _ _ _
    replace w : hp_Ws G B (hp_up h x (t, hp_ob 9 (hm_o tb n m0 th vals (hm_hd c ea) (some q)))) s H _ := w
    refine ro_aload_n X hl dJ5_linkNodeAtEnd_53 rfl (by first | exact Or.inr ⟨_, rfl⟩ | exact Or.inl rfl | exact va_rf_or _) ?_
    refine ro_ifnonnull X (hm_tl c ea) (tgt := 65) dJ5_linkNodeAtEnd_54 (by decide) (fun z hz => ?_) (fun hz => ?_)
    · have hc : ∃ k, c = k + 1 ∧ z = ea k := by
        unfold hm_tl at hz
        by_cases y : c = 0
        · rw [if_pos y] at hz; cases hz
        · rw [if_neg y] at hz; cases hz
          exact ⟨c - 1, by omega, rfl⟩
      obtain ⟨k, rfl, rfl⟩ := hc
      rw [hz] at hl
      have hq1 : hp_up h x (t, hp_ob 9 (hm_o tb n m0 th vals (hm_hd (k + 1) ea) (some q))) q = some (t, hp_ob 10 (hm_e (hs (k + 1)) (ky (k + 1)) (vl (k + 1)) none none none)) := (hp_up_n hxq.symm).trans hq
      have hk0 := le.e k (Nat.lt_succ_self k)
      have hkx : ea k ≠ x := hp_ne_c hk0 hx (by decide)
      have hkq := hd k (Nat.lt_succ_self k)
      refine ro_aload_n X hl dJ5_linkNodeAtEnd_65 rfl (by first | exact Or.inr ⟨_, rfl⟩ | exact Or.inl rfl | exact va_rf_or _) ?_
      refine ro_aload_n X hl dJ5_linkNodeAtEnd_66 rfl (by first | exact Or.inr ⟨_, rfl⟩ | exact Or.inl rfl | exact va_rf_or _) ?_
      refine pf_J5_19 X w dJ5_linkNodeAtEnd_67 rfl rfl hq1 ht (Nat.le_of_ble_eq_true rfl) (fun H locs w => ?_)
      have hk1 : ∀ y, hp_up (hp_up h x (t, hp_ob 9 (hm_o tb n m0 th vals (hm_hd (k + 1) ea) (some q)))) q y (ea k) = some (t, hp_ob 10 (hm_e (hs k) (ky k) (vl k) ((N k).map ea) (hm_bf k ea) (hm_af k (k + 1) ea))) := fun y => (hp_up_n hkq).trans ((hp_up_n hkx).trans hk0)
      refine ro_aload_n X hl dJ5_linkNodeAtEnd_70 rfl (by first | exact Or.inr ⟨_, rfl⟩ | exact Or.inl rfl | exact va_rf_or _) ?_
      refine ro_aload_n X hl dJ5_linkNodeAtEnd_71 rfl (by first | exact Or.inr ⟨_, rfl⟩ | exact Or.inl rfl | exact va_rf_or _) ?_
      refine pf_J5_14 X w dJ5_linkNodeAtEnd_72 rfl rfl (hk1 _) ht (Nat.le_of_ble_eq_true rfl) (fun H locs w => ?_)
      exact ro_ret0 X w hQ hlk dJ5_linkNodeAtEnd_75 hr (Nat.le_of_ble_eq_true rfl) (Nat.le_of_ble_eq_true rfl) ⟨rfl, le.link hq hd hN ((hp_up_n hkx.symm).trans ((hp_up_n hxq).trans (hp_up_s _ _ _))) ((hp_up_n hkq.symm).trans (hp_up_s _ _ _)) (fun k2 e2 => by cases e2; exact hp_up_s _ _ _) (fun a h1 h2 h3 => (hp_up_n (h3 k rfl)).trans ((hp_up_n h2).trans (hp_up_n h1))), ((hp_fu hx).tr (hp_fu hq1)).tr (hp_fu (hk1 _))⟩
    · have hc : c = 0 := by
        unfold hm_tl at hz
        by_cases y : c = 0
        · exact y
        · rw [if_neg y] at hz; cases hz
      subst hc
      refine ro_aload_n X hl dJ5_linkNodeAtEnd_57 rfl (by first | exact Or.inr ⟨_, rfl⟩ | exact Or.inl rfl | exact va_rf_or _) ?_
      refine ro_aload_n X hl dJ5_linkNodeAtEnd_58 rfl (by first | exact Or.inr ⟨_, rfl⟩ | exact Or.inl rfl | exact va_rf_or _) ?_
      refine pf_J5_7 X w dJ5_linkNodeAtEnd_59 rfl rfl hx1 ht (Nat.le_of_ble_eq_true rfl) (fun H locs w => ?_)
      rw [hp_up_up] at w
      refine lv_goto (tgt := 75) X.1 X.2.1 dJ5_linkNodeAtEnd_62 (by decide) ?_
      exact ro_ret0 X w hQ hlk dJ5_linkNodeAtEnd_75 hr (Nat.le_of_ble_eq_true rfl) (Nat.le_of_ble_eq_true rfl) ⟨rfl, le.link hq hd hN (hp_up_s _ _ _) ((hp_up_n hxq.symm).trans hq) (fun k2 e2 => by cases e2) (fun a h1 h2 h3 => hp_up_n h1), hp_fu hx⟩
  · exact absurd c5 (by decide)
theorem mt_J5_newNode {l : Launch} {G : hp_G} {B : Nat} {h : hp_H} {t x c n cap th : Nat} {tb vals : Option Nat} {T N : Nat → Option Nat} {m0 : Int32} {hs ky vl ea : Nat → Nat} (le : LE G t x c n tb cap T m0 th vals N hs ky vl ea h) (ht : t ≠ 0) (hN : ∀ i, i < c → ∀ j, N i = some j → j < c) : hp_M l G B yJ5_newNode cJ5_newNode 6 (some (.object "java/util/HashMap$Node")) 3 1 6 [.ref x, .int (nI (hs c)), .ref (ky c), .ref (vl c), .null] h (hp_E (fun r h1 => ∃ q, r = .ref q ∧ h q = none ∧ LE G t x (c + 1) n tb cap T m0 th vals (va_up N c none) hs ky vl (va_up ea c q) h1 ∧ hp_fr (fun q => q = t) h h1)) := by
  refine hp_M.of (by decide) 1 (List.forall_mem_cons.mpr ⟨rfl, (List.forall_mem_cons.mpr ⟨rfl, (List.forall_mem_cons.mpr ⟨rfl, (List.forall_mem_cons.mpr ⟨rfl, (List.forall_mem_cons.mpr ⟨rfl, (fun _ h => absurd h List.not_mem_nil)⟩)⟩)⟩)⟩)⟩) (Nat.le_of_ble_eq_true rfl) ?_
  intro p e s m below meth cd Q ls X hr hlk hnm w hl hQ
  have hl : hp_L ls 6 [some (.ref x), some (.int (nI (hs c))), some (.ref (ky c)), some (.ref (vl c)), some (.null), none] := hl
  refine nw_J5_15 X w dJ5_newNode_0 t ht ⟨Nat.le_of_ble_eq_true rfl, Nat.le_of_ble_eq_true rfl⟩ (fun q H hq w => ?_)
  have hq1 := hp_up_s h q (t, hp_ob 10 [.int 0, .null, .null, .null, .null, .null])
  refine lv_dup X.1 X.2.1 dJ5_newNode_3 rfl ?_
  refine ro_iload_n X hl dJ5_newNode_4 rfl ?_
  refine ro_aload_n X hl dJ5_newNode_5 rfl (by first | exact Or.inr ⟨_, rfl⟩ | exact Or.inl rfl | exact va_rf_or _) ?_
  refine ro_aload_n X hl dJ5_newNode_6 rfl (by first | exact Or.inr ⟨_, rfl⟩ | exact Or.inl rfl | exact va_rf_or _) ?_
  refine ro_aload X hl dJ5_newNode_7 rfl (by first | exact Or.inr ⟨_, rfl⟩ | exact Or.inl rfl | exact va_rf_or _) ?_
  refine ro_kV (cs_J5_28 X w (mt_J27_init (nx := none) hq1 ht) rfl rfl hl ⟨⟨Nat.le_of_ble_eq_true rfl, Nat.le_of_ble_eq_true rfl⟩, Nat.le_of_ble_eq_true rfl, Nat.le_of_ble_eq_true rfl⟩ (Nat.le_of_ble_eq_true rfl) dJ5_newNode_9) w (fun h9 H locs hp9 w => ?_)
  subst hp9
  rw [hp_up_up] at w
  refine ro_astore X hl dJ5_newNode_12 (by decide) (by first | exact Or.inr ⟨_, rfl⟩ | exact Or.inl rfl | exact va_rf_or _) (fun ls hl => ?_)
  have hd : ∀ i, i < c → ea i ≠ q := fun i hi => hp_ne_f (le.e i hi) hq
  have le1 := le.fresh (q := q) (y := (t, hp_ob 10 [.int (nI (hs c)), .ref (ky c), .ref (vl c), va_rf none, .null, .null])) hq
  refine ro_aload_n X hl dJ5_newNode_14 rfl (by first | exact Or.inr ⟨_, rfl⟩ | exact Or.inl rfl | exact va_rf_or _) ?_
  refine ro_aload X hl dJ5_newNode_15 rfl (by first | exact Or.inr ⟨_, rfl⟩ | exact Or.inl rfl | exact va_rf_or _) ?_
  refine ro_kV (cs_J5_32 X w le1.o (mt_J5_linkNodeAtEnd le1 ht (hp_up_s _ _ _) hd hN) rfl rfl hl ⟨⟨Nat.le_of_ble_eq_true rfl, Nat.le_of_ble_eq_true rfl⟩, Nat.le_of_ble_eq_true rfl, Nat.le_of_ble_eq_true rfl⟩ (Nat.le_of_ble_eq_true rfl) dJ5_newNode_17) w (fun h17 H locs hp17 w => ?_)
  refine ro_aload X hl dJ5_newNode_20 rfl (by first | exact Or.inr ⟨_, rfl⟩ | exact Or.inl rfl | exact va_rf_or _) ?_
  exact ro_retA X w hQ hlk dJ5_newNode_22 hr (Or.inl ⟨_, rfl⟩) (by first | exact Or.inr ⟨_, rfl⟩ | exact Or.inl rfl | exact va_rf_or _) (Nat.le_of_ble_eq_true rfl) (Nat.le_of_ble_eq_true rfl) ⟨_, rfl, q, rfl, hq, hp17.1, (hp_ff hq).tr hp17.2⟩
theorem mt_J5_removeEldestEntry {l : Launch} {G : hp_G} {B : Nat} {h : hp_H} {x z : Nat} : hp_M l G B yJ5_removeEldestEntry cJ5_removeEldestEntry 2 (some .boolean) 1 0 0 [.ref x, .ref z] h (hp_J h (.int 0)) := by
  refine hp_M.of (by decide) 0 (List.forall_mem_cons.mpr ⟨rfl, (List.forall_mem_cons.mpr ⟨rfl, (fun _ h => absurd h List.not_mem_nil)⟩)⟩) (Nat.le_of_ble_eq_true rfl) ?_
  intro p e s m below meth cd Q ls X hr hlk hnm w hl hQ
  have hl : hp_L ls 2 [some (.ref x), some (.ref z)] := hl
  refine lv_iconst (v := 0) X.1 X.2.1 dJ5_removeEldestEntry_0 (by decide) ?_
  exact ro_retI X w hQ hlk dJ5_removeEldestEntry_1 hr rfl (Nat.le_of_ble_eq_true rfl) (Nat.le_of_ble_eq_true rfl) ⟨hp_vi (by rfl), rfl⟩
theorem mt_J5_afterNodeInsertion {l : Launch} {G : hp_G} {B : Nat} {h : hp_H} {t x c n cap th : Nat} {tb vals : Option Nat} {T N : Nat → Option Nat} {m0 : Int32} {hs ky vl ea : Nat → Nat} {v : Int32} (le : LE G t x c n tb cap T m0 th vals N hs ky vl ea h) : hp_M l G B yJ5_afterNodeInsertion cJ5_afterNodeInsertion 4 none 2 0 0 [.ref x, .int v] h (hp_J0 h) := by
  refine hp_M.of (by decide) 2 (List.forall_mem_cons.mpr ⟨rfl, (List.forall_mem_cons.mpr ⟨rfl, (fun _ h => absurd h List.not_mem_nil)⟩)⟩) (Nat.le_of_ble_eq_true rfl) ?_
  intro p e s m below meth cd Q ls X hr hlk hnm w hl hQ
  have hl : hp_L ls 4 [some (.ref x), some (.int v), none, none] := hl
  refine ro_iload_n X hl dJ5_afterNodeInsertion_0 rfl ?_
  refine lv_if_eq (tgt := 39) X.1 X.2.1 dJ5_afterNodeInsertion_1 (by decide) (fun c1 => ?_) (fun c1 => ?_)
  · exact ro_ret0 X w hQ hlk dJ5_afterNodeInsertion_39 hr (Nat.le_of_ble_eq_true rfl) (Nat.le_of_ble_eq_true rfl) ⟨rfl, rfl⟩
  · refine ro_aload_n X hl dJ5_afterNodeInsertion_4 rfl (by first | exact Or.inr ⟨_, rfl⟩ | exact Or.inl rfl | exact va_rf_or _) ?_
    refine gf_J5_7 X w dJ5_afterNodeInsertion_5 le.o rfl ?_
    refine lv_dup X.1 X.2.1 dJ5_afterNodeInsertion_8 (hp_rf1 _) ?_
    refine ro_astore_n X hl dJ5_afterNodeInsertion_9 (by decide) (by first | exact Or.inr ⟨_, rfl⟩ | exact Or.inl rfl | exact va_rf_or _) (fun ls hl => ?_)
    refine ro_ifnull X (hm_hd c ea) (tgt := 39) dJ5_afterNodeInsertion_10 (by decide) (fun hz => ?_) (fun z hz => ?_)
    · exact ro_ret0 X w hQ hlk dJ5_afterNodeInsertion_39 hr (Nat.le_of_ble_eq_true rfl) (Nat.le_of_ble_eq_true rfl) ⟨rfl, rfl⟩
    · rw [hz] at hl
      refine ro_aload_n X hl dJ5_afterNodeInsertion_13 rfl (by first | exact Or.inr ⟨_, rfl⟩ | exact Or.inl rfl | exact va_rf_or _) ?_
      refine ro_aload_n X hl dJ5_afterNodeInsertion_14 rfl (by first | exact Or.inr ⟨_, rfl⟩ | exact Or.inl rfl | exact va_rf_or _) ?_
      refine ro_kJ (cs_J5_53 X w le.o (mt_J5_removeEldestEntry) rfl rfl hl ⟨⟨Nat.le_of_ble_eq_true rfl, Nat.le_of_ble_eq_true rfl⟩, Nat.le_of_ble_eq_true rfl, Nat.le_of_ble_eq_true rfl⟩ (Nat.le_of_ble_eq_true rfl) dJ5_afterNodeInsertion_15) w (fun H locs w => ?_)
      refine lv_if_eq (tgt := 39) X.1 X.2.1 dJ5_afterNodeInsertion_18 (by decide) (fun c18 => ?_) (fun c18 => ?_)
      · exact ro_ret0 X w hQ hlk dJ5_afterNodeInsertion_39 hr (Nat.le_of_ble_eq_true rfl) (Nat.le_of_ble_eq_true rfl) ⟨rfl, rfl⟩
      · exact absurd rfl c18
theorem FI.is {hs : Nat → Nat} {kk n i : Nat} {r : Option Nat} (h : FI (fun j => hs j = kk) 0 n r) (hi : i < n) (e : hs i = kk) (inj : ∀ i j, i < n → j < n → hs i = hs j → i = j) : r = some i := by
  cases r with
  | none => exact absurd e (h i (Nat.zero_le _) hi)
  | some k => exact congrArg some (inj k i h.2.1 hi (h.2.2.1.trans e.symm))
theorem FI.no {hs : Nat → Nat} {kk n : Nat} {r : Option Nat} (h : FI (fun j => hs j = kk) 0 n r) (e : ∀ i, i < n → hs i ≠ kk) : r = none := by
  cases r with
  | none => rfl
  | some k => exact absurd h.2.2.1 (e k h.2.1)
theorem nI_inj {a b : Nat} (ha : a < 2147483648) (hb : b < 2147483648) (h : nI a = nI b) : a = b := by
  have := congrArg (fun z : Int32 => z.toNatClampNeg) h
  rw [show (nI a).toNatClampNeg = a from nI_at ha, show (nI b).toNatClampNeg = b from nI_at hb] at this
  exact this
theorem mt_J4_getNode {l : Launch} {G : hp_G} {B : Nat} {h : hp_H} {x t n k tk kk : Nat} {se pl : Int32} {vals r : Option Nat} {hs ky vl ea : Nat → Nat} (lm : LM G t x n vals hs ky vl ea h) (hk : h k = some (tk, hp_ob 5 [.int se, .int pl])) (hkk : 4 * se + pl = nI kk) (hk2 : kk < 64) (hr0 : FI (fun j => hs j = kk) 0 n r) (hb : ∀ i, i < n → hs i < 64) (inj : ∀ i j, i < n → j < n → hs i = hs j → i = j) (hks : ∀ i, i < n → hs i = kk → ∃ t2, h (ky i) = some (t2, hp_ob 5 [.int se, .int pl])) : hp_M l G B yJ4_getNode cJ4_getNode 8 (some (.object "java/util/HashMap$Node")) 3 0 0 [.ref x, .ref k] h (hp_J h (va_rf (r.map ea))) := by
  refine hp_M.of (by decide) 6 (List.forall_mem_cons.mpr ⟨rfl, (List.forall_mem_cons.mpr ⟨rfl, (fun _ h => absurd h List.not_mem_nil)⟩)⟩) (Nat.le_of_ble_eq_true rfl) ?_
  intro p e s m below meth cd Q ls X hr hlk hnm w hl hQ
  have hl : hp_L ls 8 [some (.ref x), some (.ref k), none, none, none, none, none, none] := hl
  obtain ⟨tb, cap, T, m0, th, N, le, hht⟩ := lm
  refine ro_aload_n X hl dJ4_getNode_0 rfl (by first | exact Or.inr ⟨_, rfl⟩ | exact Or.inl rfl | exact va_rf_or _) ?_
  refine gf_J4_105 X w dJ4_getNode_1 le.o rfl ?_
  refine lv_dup X.1 X.2.1 dJ4_getNode_4 (hp_rf1 _) ?_
  refine ro_astore_n X hl dJ4_getNode_5 (by decide) (by first | exact Or.inr ⟨_, rfl⟩ | exact Or.inl rfl | exact va_rf_or _) (fun ls hl => ?_)
  refine ro_ifnull X tb (tgt := 148) dJ4_getNode_6 (by decide) (fun hz => ?_) (fun a hz => ?_)
  · have hn0 : n = 0 := by
      rcases hht with q | q
      · exact q.1
      · obtain ⟨a, ha⟩ := q.1
        rw [hz] at ha; cases ha
    have hrn : r = none := hr0.no (fun i hi => by omega)
    subst hrn
    refine lv_null X.1 X.2.1 dJ4_getNode_148 ?_
    exact ro_retA X w hQ hlk dJ4_getNode_149 hr (Or.inl ⟨_, rfl⟩) (by first | exact Or.inr ⟨_, rfl⟩ | exact Or.inl rfl | exact va_rf_or _) (Nat.le_of_ble_eq_true rfl) (Nat.le_of_ble_eq_true rfl) ⟨rfl, rfl⟩
  · obtain ⟨-, hcap, -, ⟨F, hF⟩, hN⟩ := hht.resolve_left (fun q => by rw [hz] at q; cases q.2.1)
    have hc16 : 16 ≤ cap ∧ cap ≤ 64 := by rcases hcap with ⟨c1, -⟩ | ⟨c1, -⟩ | ⟨c1, -⟩ <;> omega
    have ha := le.tt a hz
    subst hz
    have hbk : kk % cap < cap := Nat.mod_lt _ (by omega)
    obtain ⟨hT, hFI⟩ := hF (kk % cap) hbk
    have K : ∀ (f i : Nat) (H : Heap) (locs : List Loc) (ls : Array Slot), n ≤ f + i → i < n → hs i % cap = kk % cap → (∀ j, j < i → hs j % cap = kk % cap → hs j ≠ kk) → hp_Ws G B h s H locs → hp_L ls 8 [some (.ref x), some (.ref k), some (.ref a), none, some (.ref (ea i)), none, some (.int (nI kk)), none] → W p l e (hp_rm 3 0 0) s m ([.ref x, .ref k] : List Value).toArray below meth cd H locs (0 + 0) (0 + 0) Q (F0 m 99 ls []) := by
      intro f
      induction f with
      | zero => intro i H locs ls hf hi; exact absurd hi (by omega)
      | succ f ih =>
        intro i H locs ls hf hi hm hno w hl
        have hei := le.e i hi
        have nxt : ∀ (H : Heap) (locs : List Loc) (ls : Array Slot) (cc ss : Nat), cc = 0 → ss = 0 → hs i ≠ kk → hp_Ws G B h s H locs → hp_L ls 8 [some (.ref x), some (.ref k), some (.ref a), none, some (.ref (ea i)), none, some (.int (nI kk)), none] → W p l e (hp_rm 3 0 0) s m ([.ref x, .ref k] : List Value).toArray below meth cd H locs cc ss Q (F0 m 137 ls []) := by
          intro H locs ls cc ss hcc hss hne w hl
          subst hcc
          subst hss
          refine ro_aload X hl dJ4_getNode_137 rfl (by first | exact Or.inr ⟨_, rfl⟩ | exact Or.inl rfl | exact va_rf_or _) ?_
          refine gf_J4_177 X w dJ4_getNode_139 hei rfl ?_
          refine lv_dup X.1 X.2.1 dJ4_getNode_142 (hp_rf1 _) ?_
          refine ro_astore X hl dJ4_getNode_143 (by decide) (by first | exact Or.inr ⟨_, rfl⟩ | exact Or.inl rfl | exact va_rf_or _) (fun ls hl => ?_)
          have hNF := hN i hi
          cases hNi : N i with
          | none =>
            rw [hNi] at hl hNF
            have hrn : r = none := hr0.no (fun j hj e => by
              have e2 : hs j % cap = kk % cap := by rw [e]
              rcases Nat.lt_trichotomy j i with q | q | q
              · exact hno j q e2 e
              · exact hne (q ▸ e)
              · exact hNF j q hj (e2.trans hm.symm))
            subst hrn
            refine lv_ifnonnullN X.1 X.2.1 dJ4_getNode_145 ?_
            refine lv_null X.1 X.2.1 dJ4_getNode_148 ?_
            exact ro_retA X w hQ hlk dJ4_getNode_149 hr (Or.inl ⟨_, rfl⟩) (by first | exact Or.inr ⟨_, rfl⟩ | exact Or.inl rfl | exact va_rf_or _) (Nat.le_of_ble_eq_true rfl) (Nat.le_of_ble_eq_true rfl) ⟨rfl, rfl⟩
          | some i2 =>
            rw [hNi] at hl hNF
            obtain ⟨hlt, hi2, hm2, hmid⟩ := hNF
            refine lv_ifnonnull (tgt := 99) X.1 X.2.1 dJ4_getNode_145 (by decide) ?_
            exact ih i2 _ _ ls (by omega) hi2 (hm2.trans hm) (fun j hj e2 e => by
              rcases Nat.lt_trichotomy j i with q | q | q
              · exact hno j q e2 e
              · exact hne (q ▸ e)
              · exact hmid j q hj (e2.trans hm.symm)) w hl
        refine ro_aload X hl dJ4_getNode_99 rfl (by first | exact Or.inr ⟨_, rfl⟩ | exact Or.inl rfl | exact va_rf_or _) ?_
        refine gf_J4_168 X w dJ4_getNode_101 hei rfl ?_
        refine ro_iload X hl dJ4_getNode_104 rfl ?_
        refine lv_icmp_ne (tgt := 137) X.1 X.2.1 dJ4_getNode_106 (by decide) (fun c106 => ?_) (fun c106 => ?_)
        · exact nxt _ _ ls _ _ rfl rfl (fun q => c106 (by rw [q])) w hl
        · have hik : hs i = kk := nI_inj (by have := hb i hi; omega) (by omega) c106
          obtain ⟨t2, hk3⟩ := hks i hi hik
          have hri := hr0.is hi hik inj
          subst hri
          refine ro_aload X hl dJ4_getNode_109 rfl (by first | exact Or.inr ⟨_, rfl⟩ | exact Or.inl rfl | exact va_rf_or _) ?_
          refine gf_J4_170 X w dJ4_getNode_111 hei rfl ?_
          refine lv_dup X.1 X.2.1 dJ4_getNode_114 rfl ?_
          refine ro_astore X hl dJ4_getNode_115 (by decide) (by first | exact Or.inr ⟨_, rfl⟩ | exact Or.inl rfl | exact va_rf_or _) (fun ls hl => ?_)
          refine ro_aload_n X hl dJ4_getNode_117 rfl (by first | exact Or.inr ⟨_, rfl⟩ | exact Or.inl rfl | exact va_rf_or _) ?_
          refine lv_acmp_eq (rx := some (ky i)) (ry := some k) (tgt := 134) X.1 X.2.1 dJ4_getNode_118 (by decide) (fun _ => ?_) (fun _ => ?_)
          · refine ro_aload X hl dJ4_getNode_134 rfl (by first | exact Or.inr ⟨_, rfl⟩ | exact Or.inl rfl | exact va_rf_or _) ?_
            exact ro_retA X w hQ hlk dJ4_getNode_136 hr (Or.inl ⟨_, rfl⟩) (by first | exact Or.inr ⟨_, rfl⟩ | exact Or.inl rfl | exact va_rf_or _) (Nat.le_of_ble_eq_true rfl) (Nat.le_of_ble_eq_true rfl) ⟨rfl, rfl⟩
          · refine ro_aload_n X hl dJ4_getNode_121 rfl (by first | exact Or.inr ⟨_, rfl⟩ | exact Or.inl rfl | exact va_rf_or _) ?_
            refine lv_ifnull X.1 X.2.1 dJ4_getNode_122 ?_
            refine ro_aload_n X hl dJ4_getNode_125 rfl (by first | exact Or.inr ⟨_, rfl⟩ | exact Or.inl rfl | exact va_rf_or _) ?_
            refine ro_aload X hl dJ4_getNode_126 rfl (by first | exact Or.inr ⟨_, rfl⟩ | exact Or.inl rfl | exact va_rf_or _) ?_
            refine ro_kJ (cs_J4_173_X6 X w hk (mt_X6_equals hk hk3) rfl rfl hl ⟨⟨Nat.le_of_ble_eq_true rfl, Nat.le_of_ble_eq_true rfl⟩, Nat.le_of_ble_eq_true rfl, Nat.le_of_ble_eq_true rfl⟩ (Nat.le_of_ble_eq_true rfl) dJ4_getNode_128) w (fun H locs w => ?_)
            refine lv_if_eq (tgt := 137) X.1 X.2.1 dJ4_getNode_131 (by decide) (fun c131 => ?_) (fun c131 => ?_)
            · exact absurd c131 (by decide)
            · refine ro_aload X hl dJ4_getNode_134 rfl (by first | exact Or.inr ⟨_, rfl⟩ | exact Or.inl rfl | exact va_rf_or _) ?_
              exact ro_retA X w hQ hlk dJ4_getNode_136 hr (Or.inl ⟨_, rfl⟩) (by first | exact Or.inr ⟨_, rfl⟩ | exact Or.inl rfl | exact va_rf_or _) (Nat.le_of_ble_eq_true rfl) (Nat.le_of_ble_eq_true rfl) ⟨rfl, rfl⟩
    refine ro_aload_n X hl dJ4_getNode_9 rfl (by first | exact Or.inr ⟨_, rfl⟩ | exact Or.inl rfl | exact va_rf_or _) ?_
    refine ro_alenQ X w dJ4_getNode_10 (k := 4) rfl ha ?_
    refine lv_dup X.1 X.2.1 dJ4_getNode_11 rfl ?_
    refine ro_istore X hl dJ4_getNode_12 (by decide) (fun ls hl => ?_)
    refine lv_if_le (tgt := 148) X.1 X.2.1 dJ4_getNode_14 (by decide) (fun c14 => ?_) (fun c14 => ?_)
    · exact absurd c14 (by rw [show (0 : Int32) = nI 0 from rfl]; exact nI_ge (by omega) (by omega))
    · refine ro_aload_n X hl dJ4_getNode_17 rfl (by first | exact Or.inr ⟨_, rfl⟩ | exact Or.inl rfl | exact va_rf_or _) ?_
      refine ro_iload X hl dJ4_getNode_18 rfl ?_
      refine lv_iconst (v := 1) X.1 X.2.1 dJ4_getNode_20 (by decide) ?_
      refine lv_isub X.1 X.2.1 dJ4_getNode_21 ?_
      refine ro_aload_n X hl dJ4_getNode_22 rfl (by first | exact Or.inr ⟨_, rfl⟩ | exact Or.inl rfl | exact va_rf_or _) ?_
      refine ro_kJ (cs_J4_149 X w (mt_J4_hash hk hkk hk2) rfl rfl hl ⟨⟨Nat.le_of_ble_eq_true rfl, Nat.le_of_ble_eq_true rfl⟩, Nat.le_of_ble_eq_true rfl, Nat.le_of_ble_eq_true rfl⟩ (Nat.le_of_ble_eq_true rfl) dJ4_getNode_23) w (fun H locs w => ?_)
      refine lv_dup X.1 X.2.1 dJ4_getNode_26 rfl ?_
      refine ro_istore X hl dJ4_getNode_27 (by decide) (fun ls hl => ?_)
      refine lv_iand X.1 X.2.1 dJ4_getNode_29 ?_
      rw [hm_and hcap hk2]
      refine ro_aald X w dJ4_getNode_30 (k := 4) (C := "java/util/HashMap$Node") rfl ha (nI_inb hbk (by omega)) ?_
      rw [nI_at (by omega), hT]
      refine lv_dup X.1 X.2.1 dJ4_getNode_31 (hp_rf1 _) ?_
      refine ro_astore_n X hl dJ4_getNode_32 (by decide) (by first | exact Or.inr ⟨_, rfl⟩ | exact Or.inl rfl | exact va_rf_or _) (fun ls hl => ?_)
      cases hFe : F (kk % cap) with
      | none =>
        rw [hFe] at hl hFI
        have hrn : r = none := hr0.no (fun i hi e => hFI i (Nat.zero_le _) hi (by show hs i % cap = kk % cap; rw [e]))
        subst hrn
        refine lv_ifnullN (tgt := 148) X.1 X.2.1 dJ4_getNode_33 (by decide) ?_
        refine lv_null X.1 X.2.1 dJ4_getNode_148 ?_
        exact ro_retA X w hQ hlk dJ4_getNode_149 hr (Or.inl ⟨_, rfl⟩) (by first | exact Or.inr ⟨_, rfl⟩ | exact Or.inl rfl | exact va_rf_or _) (Nat.le_of_ble_eq_true rfl) (Nat.le_of_ble_eq_true rfl) ⟨rfl, rfl⟩
      | some i =>
        rw [hFe] at hl hFI
        obtain ⟨-, hi, hm, hfst⟩ := hFI
        have hei := le.e i hi
        refine lv_ifnull X.1 X.2.1 dJ4_getNode_33 ?_
        have fst : ∀ (H : Heap) (locs : List Loc) (ls : Array Slot) (cc ss : Nat), cc = 0 → ss = 0 → hs i ≠ kk → hp_Ws G B h s H locs → hp_L ls 8 [some (.ref x), some (.ref k), some (.ref a), some (.ref (ea i)), none, none, some (.int (nI kk)), none] → W p l e (hp_rm 3 0 0) s m ([.ref x, .ref k] : List Value).toArray below meth cd H locs cc ss Q (F0 m 71 ls []) := by
          intro H locs ls cc ss hcc hss hne w hl
          subst hcc
          subst hss
          refine ro_aload_n X hl dJ4_getNode_71 rfl (by first | exact Or.inr ⟨_, rfl⟩ | exact Or.inl rfl | exact va_rf_or _) ?_
          refine gf_J4_177 X w dJ4_getNode_72 hei rfl ?_
          refine lv_dup X.1 X.2.1 dJ4_getNode_75 (hp_rf1 _) ?_
          refine ro_astore X hl dJ4_getNode_76 (by decide) (by first | exact Or.inr ⟨_, rfl⟩ | exact Or.inl rfl | exact va_rf_or _) (fun ls hl => ?_)
          have hNF := hN i hi
          cases hNi : N i with
          | none =>
            rw [hNi] at hl hNF
            have hrn : r = none := hr0.no (fun j hj e => by
              have e2 : hs j % cap = kk % cap := by rw [e]
              rcases Nat.lt_trichotomy j i with q | q | q
              · exact hfst j (Nat.zero_le _) q e2
              · exact hne (q ▸ e)
              · exact hNF j q hj (e2.trans hm.symm))
            subst hrn
            refine lv_ifnullN (tgt := 148) X.1 X.2.1 dJ4_getNode_78 (by decide) ?_
            refine lv_null X.1 X.2.1 dJ4_getNode_148 ?_
            exact ro_retA X w hQ hlk dJ4_getNode_149 hr (Or.inl ⟨_, rfl⟩) (by first | exact Or.inr ⟨_, rfl⟩ | exact Or.inl rfl | exact va_rf_or _) (Nat.le_of_ble_eq_true rfl) (Nat.le_of_ble_eq_true rfl) ⟨rfl, rfl⟩
          | some i2 =>
            rw [hNi] at hl hNF
            obtain ⟨hlt, hi2, hm2, hmid⟩ := hNF
            refine lv_ifnull X.1 X.2.1 dJ4_getNode_78 ?_
            refine ro_aload_n X hl dJ4_getNode_81 rfl (by first | exact Or.inr ⟨_, rfl⟩ | exact Or.inl rfl | exact va_rf_or _) ?_
            refine ro_instNo X w (ci := 10) rfl q1003 (by decide +kernel) dJ4_getNode_82 hei ?_
            refine lv_if_eq (tgt := 99) X.1 X.2.1 dJ4_getNode_85 (by decide) (fun c85 => ?_) (fun c85 => ?_)
            · exact K n i2 _ _ ls (by omega) hi2 (hm2.trans hm) (fun j hj e2 e => by
                rcases Nat.lt_trichotomy j i with q | q | q
                · exact hfst j (Nat.zero_le _) q e2
                · exact hne (q ▸ e)
                · exact hmid j q hj (e2.trans hm.symm)) w (hl.mask [true, true, true, false, true, false, true, false])
            · exact absurd rfl c85
        refine ro_aload_n X hl dJ4_getNode_36 rfl (by first | exact Or.inr ⟨_, rfl⟩ | exact Or.inl rfl | exact va_rf_or _) ?_
        refine gf_J4_168 X w dJ4_getNode_37 hei rfl ?_
        refine ro_iload X hl dJ4_getNode_40 rfl ?_
        refine lv_icmp_ne (tgt := 71) X.1 X.2.1 dJ4_getNode_42 (by decide) (fun c42 => ?_) (fun c42 => ?_)
        · exact fst _ _ ls _ _ rfl rfl (fun q => c42 (by rw [q])) w (hl.mask [true, true, true, true, false, false, true, false])
        · have hik : hs i = kk := nI_inj (by have := hb i hi; omega) (by omega) c42
          obtain ⟨t2, hk3⟩ := hks i hi hik
          have hri := hr0.is hi hik inj
          subst hri
          refine ro_aload_n X hl dJ4_getNode_45 rfl (by first | exact Or.inr ⟨_, rfl⟩ | exact Or.inl rfl | exact va_rf_or _) ?_
          refine gf_J4_170 X w dJ4_getNode_46 hei rfl ?_
          refine lv_dup X.1 X.2.1 dJ4_getNode_49 rfl ?_
          refine ro_astore X hl dJ4_getNode_50 (by decide) (by first | exact Or.inr ⟨_, rfl⟩ | exact Or.inl rfl | exact va_rf_or _) (fun ls hl => ?_)
          refine ro_aload_n X hl dJ4_getNode_52 rfl (by first | exact Or.inr ⟨_, rfl⟩ | exact Or.inl rfl | exact va_rf_or _) ?_
          refine lv_acmp_eq (rx := some (ky i)) (ry := some k) (tgt := 69) X.1 X.2.1 dJ4_getNode_53 (by decide) (fun _ => ?_) (fun _ => ?_)
          · refine ro_aload_n X hl dJ4_getNode_69 rfl (by first | exact Or.inr ⟨_, rfl⟩ | exact Or.inl rfl | exact va_rf_or _) ?_
            exact ro_retA X w hQ hlk dJ4_getNode_70 hr (Or.inl ⟨_, rfl⟩) (by first | exact Or.inr ⟨_, rfl⟩ | exact Or.inl rfl | exact va_rf_or _) (Nat.le_of_ble_eq_true rfl) (Nat.le_of_ble_eq_true rfl) ⟨rfl, rfl⟩
          · refine ro_aload_n X hl dJ4_getNode_56 rfl (by first | exact Or.inr ⟨_, rfl⟩ | exact Or.inl rfl | exact va_rf_or _) ?_
            refine lv_ifnull X.1 X.2.1 dJ4_getNode_57 ?_
            refine ro_aload_n X hl dJ4_getNode_60 rfl (by first | exact Or.inr ⟨_, rfl⟩ | exact Or.inl rfl | exact va_rf_or _) ?_
            refine ro_aload X hl dJ4_getNode_61 rfl (by first | exact Or.inr ⟨_, rfl⟩ | exact Or.inl rfl | exact va_rf_or _) ?_
            refine ro_kJ (cs_J4_173_X6 X w hk (mt_X6_equals hk hk3) rfl rfl hl ⟨⟨Nat.le_of_ble_eq_true rfl, Nat.le_of_ble_eq_true rfl⟩, Nat.le_of_ble_eq_true rfl, Nat.le_of_ble_eq_true rfl⟩ (Nat.le_of_ble_eq_true rfl) dJ4_getNode_63) w (fun H locs w => ?_)
            refine lv_if_eq (tgt := 71) X.1 X.2.1 dJ4_getNode_66 (by decide) (fun c66 => ?_) (fun c66 => ?_)
            · exact absurd c66 (by decide)
            · refine ro_aload_n X hl dJ4_getNode_69 rfl (by first | exact Or.inr ⟨_, rfl⟩ | exact Or.inl rfl | exact va_rf_or _) ?_
              exact ro_retA X w hQ hlk dJ4_getNode_70 hr (Or.inl ⟨_, rfl⟩) (by first | exact Or.inr ⟨_, rfl⟩ | exact Or.inl rfl | exact va_rf_or _) (Nat.le_of_ble_eq_true rfl) (Nat.le_of_ble_eq_true rfl) ⟨rfl, rfl⟩
theorem mt_J5_get {l : Launch} {G : hp_G} {B : Nat} {h : hp_H} {x t n k tk kk : Nat} {se pl : Int32} {vals r : Option Nat} {hs ky vl ea : Nat → Nat} (lm : LM G t x n vals hs ky vl ea h) (hk : h k = some (tk, hp_ob 5 [.int se, .int pl])) (hkk : 4 * se + pl = nI kk) (hk2 : kk < 64) (hr0 : FI (fun j => hs j = kk) 0 n r) (hb : ∀ i, i < n → hs i < 64) (inj : ∀ i j, i < n → j < n → hs i = hs j → i = j) (hks : ∀ i, i < n → hs i = kk → ∃ t2, h (ky i) = some (t2, hp_ob 5 [.int se, .int pl])) : hp_M l G B yJ5_get cJ5_get 3 (some (.object "java/lang/Object")) 4 0 0 [.ref x, .ref k] h (hp_J h (va_rf (r.map vl))) := by
  refine hp_M.of (by decide) 1 (List.forall_mem_cons.mpr ⟨rfl, (List.forall_mem_cons.mpr ⟨rfl, (fun _ h => absurd h List.not_mem_nil)⟩)⟩) (Nat.le_of_ble_eq_true rfl) ?_
  intro p e s m below meth cd Q ls X hr hlk hnm w hl hQ
  have hl : hp_L ls 3 [some (.ref x), some (.ref k), none] := hl
  have lm0 := lm
  obtain ⟨tb, cap, T, m0, th, N, le, hht⟩ := lm
  refine ro_aload_n X hl dJ5_get_0 rfl (by first | exact Or.inr ⟨_, rfl⟩ | exact Or.inl rfl | exact va_rf_or _) ?_
  refine ro_aload_n X hl dJ5_get_1 rfl (by first | exact Or.inr ⟨_, rfl⟩ | exact Or.inl rfl | exact va_rf_or _) ?_
  refine ro_kJ (cs_J5_99 X w le.o (mt_J4_getNode lm0 hk hkk hk2 hr0 hb inj hks) rfl rfl hl ⟨⟨Nat.le_of_ble_eq_true rfl, Nat.le_of_ble_eq_true rfl⟩, Nat.le_of_ble_eq_true rfl, Nat.le_of_ble_eq_true rfl⟩ (Nat.le_of_ble_eq_true rfl) dJ5_get_2) w (fun H locs w => ?_)
  refine lv_dup X.1 X.2.1 dJ5_get_5 (hp_rf1 _) ?_
  refine ro_astore_n X hl dJ5_get_6 (by decide) (by first | exact Or.inr ⟨_, rfl⟩ | exact Or.inl rfl | exact va_rf_or _) (fun ls hl => ?_)
  cases r with
  | none =>
    refine lv_ifnonnullN X.1 X.2.1 dJ5_get_7 ?_
    refine lv_null X.1 X.2.1 dJ5_get_10 ?_
    exact ro_retA X w hQ hlk dJ5_get_11 hr (Or.inl ⟨_, rfl⟩) (by first | exact Or.inr ⟨_, rfl⟩ | exact Or.inl rfl | exact va_rf_or _) (Nat.le_of_ble_eq_true rfl) (Nat.le_of_ble_eq_true rfl) ⟨rfl, rfl⟩
  | some i =>
    have hi := hr0.2.1
    refine lv_ifnonnull (tgt := 12) X.1 X.2.1 dJ5_get_7 (by decide) ?_
    refine ro_aload_n X hl dJ5_get_12 rfl (by first | exact Or.inr ⟨_, rfl⟩ | exact Or.inl rfl | exact va_rf_or _) ?_
    refine gf_J5_64 X w dJ5_get_13 le.o rfl ?_
    refine lv_if_eq (tgt := 24) X.1 X.2.1 dJ5_get_16 (by decide) (fun c16 => ?_) (fun c16 => ?_)
    · refine ro_aload_n X hl dJ5_get_24 rfl (by first | exact Or.inr ⟨_, rfl⟩ | exact Or.inl rfl | exact va_rf_or _) ?_
      refine gf_J5_107 X w dJ5_get_25 (le.e i hi) rfl ?_
      exact ro_retA X w hQ hlk dJ5_get_28 hr (Or.inl ⟨_, rfl⟩) (by first | exact Or.inr ⟨_, rfl⟩ | exact Or.inl rfl | exact va_rf_or _) (Nat.le_of_ble_eq_true rfl) (Nat.le_of_ble_eq_true rfl) ⟨rfl, rfl⟩
    · exact absurd rfl c16
