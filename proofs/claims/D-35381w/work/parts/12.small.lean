/-! SMALL METHODS: printed by tools/m12.py -/
set_option maxRecDepth 100000
theorem hp_vi {a b : Int32} (h : a = b) : (some (Value.int a)) = some (Value.int b) := by rw [h]
/-- between two bounds, as the code asks it: least, most, number -/
def isb (a b v : Int32) : Int32 := if v < a then 0 else if b < v then 0 else 1
/-- a truth value as the machine has it -/
theorem hp_nz {x : Int32} (h : x = 0 ∨ x = 1) : narrow .boolean (.int x) = .int x := by rcases h with rfl | rfl <;> rfl
theorem isb_01 (a b v : Int32) : isb a b v = 0 ∨ isb a b v = 1 := by unfold isb; split; exact Or.inl rfl; split; exact Or.inl rfl; exact Or.inr rfl
theorem isb_n {a b v : Int32} : narrow .boolean (.int (isb a b v)) = .int (isb a b v) := hp_nz (isb_01 a b v)
def bz (p : Prop) [Decidable p] : Int32 := if p then 1 else 0
theorem bz_01 (p : Prop) [Decidable p] : bz p = 0 ∨ bz p = 1 := by unfold bz; split; exact Or.inr rfl; exact Or.inl rfl
theorem bz_n {p : Prop} [Decidable p] : narrow .boolean (.int (bz p)) = .int (bz p) := hp_nz (bz_01 p)
theorem bz_t {p : Prop} [Decidable p] (h : p) : bz p = 1 := if_pos h
theorem bz_f {p : Prop} [Decidable p] (h : ¬ p) : bz p = 0 := if_neg h
theorem mt_X1_isBetween {l : Launch} {G : hp_G} {B : Nat} {h : hp_H} {a b v : Int32} : hp_M l G B yX1_isBetween cX1_isBetween 3 (some .boolean) 1 0 0 [.int a, .int b, .int v] h (hp_J h (.int (isb a b v))) := by
  refine hp_M.of (by decide) 0 (List.forall_mem_cons.mpr ⟨rfl, (List.forall_mem_cons.mpr ⟨rfl, (List.forall_mem_cons.mpr ⟨rfl, (fun _ h => absurd h List.not_mem_nil)⟩)⟩)⟩) (Nat.le_of_ble_eq_true rfl) ?_
  intro p e s m below meth cd Q ls X hr hlk hnm w hl hQ
  have hl : hp_L ls 3 [some (.int a), some (.int b), some (.int v)] := hl
  refine ro_iload_n X hl dX1_isBetween_0 rfl ?_
  refine ro_iload_n X hl dX1_isBetween_1 rfl ?_
  refine lv_icmp_lt (tgt := 14) X.1 X.2.1 dX1_isBetween_2 (by decide) (fun c2 => ?_) (fun c2 => ?_)
  · refine lv_iconst (v := 0) X.1 X.2.1 dX1_isBetween_14 (by decide) ?_
    exact ro_retI X w hQ hlk dX1_isBetween_15 hr rfl (Nat.le_of_ble_eq_true rfl) (Nat.le_of_ble_eq_true rfl) ⟨hp_vi (by simp [isb, *]), rfl⟩
  · refine ro_iload_n X hl dX1_isBetween_5 rfl ?_
    refine ro_iload_n X hl dX1_isBetween_6 rfl ?_
    refine lv_icmp_gt (tgt := 14) X.1 X.2.1 dX1_isBetween_7 (by decide) (fun c7 => ?_) (fun c7 => ?_)
    · refine lv_iconst (v := 0) X.1 X.2.1 dX1_isBetween_14 (by decide) ?_
      exact ro_retI X w hQ hlk dX1_isBetween_15 hr rfl (Nat.le_of_ble_eq_true rfl) (Nat.le_of_ble_eq_true rfl) ⟨hp_vi (by simp [isb, *]), rfl⟩
    · refine lv_iconst (v := 1) X.1 X.2.1 dX1_isBetween_10 (by decide) ?_
      refine lv_goto (tgt := 15) X.1 X.2.1 dX1_isBetween_11 (by decide) ?_
      exact ro_retI X w hQ hlk dX1_isBetween_15 hr rfl (Nat.le_of_ble_eq_true rfl) (Nat.le_of_ble_eq_true rfl) ⟨hp_vi (by simp [isb, *]), rfl⟩
theorem mt_X3_isIn {l : Launch} {G : hp_G} {B : Nat} {h : hp_H} {a b v : Int32} : hp_M l G B yX3_isIn cX3_isIn 3 (some .boolean) 1 0 0 [.int v, .int a, .int b] h (hp_J h (.int (isb a b v))) := by
  refine hp_M.of (by decide) 0 (List.forall_mem_cons.mpr ⟨rfl, (List.forall_mem_cons.mpr ⟨rfl, (List.forall_mem_cons.mpr ⟨rfl, (fun _ h => absurd h List.not_mem_nil)⟩)⟩)⟩) (Nat.le_of_ble_eq_true rfl) ?_
  intro p e s m below meth cd Q ls X hr hlk hnm w hl hQ
  have hl : hp_L ls 3 [some (.int v), some (.int a), some (.int b)] := hl
  refine ro_iload_n X hl dX3_isIn_0 rfl ?_
  refine ro_iload_n X hl dX3_isIn_1 rfl ?_
  refine lv_icmp_lt (tgt := 14) X.1 X.2.1 dX3_isIn_2 (by decide) (fun c2 => ?_) (fun c2 => ?_)
  · refine lv_iconst (v := 0) X.1 X.2.1 dX3_isIn_14 (by decide) ?_
    exact ro_retI X w hQ hlk dX3_isIn_15 hr rfl (Nat.le_of_ble_eq_true rfl) (Nat.le_of_ble_eq_true rfl) ⟨hp_vi (by simp [isb, *]), rfl⟩
  · refine ro_iload_n X hl dX3_isIn_5 rfl ?_
    refine ro_iload_n X hl dX3_isIn_6 rfl ?_
    refine lv_icmp_gt (tgt := 14) X.1 X.2.1 dX3_isIn_7 (by decide) (fun c7 => ?_) (fun c7 => ?_)
    · refine lv_iconst (v := 0) X.1 X.2.1 dX3_isIn_14 (by decide) ?_
      exact ro_retI X w hQ hlk dX3_isIn_15 hr rfl (Nat.le_of_ble_eq_true rfl) (Nat.le_of_ble_eq_true rfl) ⟨hp_vi (by simp [isb, *]), rfl⟩
    · refine lv_iconst (v := 1) X.1 X.2.1 dX3_isIn_10 (by decide) ?_
      refine lv_goto (tgt := 15) X.1 X.2.1 dX3_isIn_11 (by decide) ?_
      exact ro_retI X w hQ hlk dX3_isIn_15 hr rfl (Nat.le_of_ble_eq_true rfl) (Nat.le_of_ble_eq_true rfl) ⟨hp_vi (by simp [isb, *]), rfl⟩
theorem mt_X3_isRegion {l : Launch} {G : hp_G} {B : Nat} {h : hp_H} {v : Int32} : hp_M l G B yX3_isRegion cX3_isRegion 1 (some .boolean) 2 0 0 [.int v] h (hp_J h (.int (isb 0 3 v))) := by
  refine hp_M.of (by decide) 0 (List.forall_mem_cons.mpr ⟨rfl, (fun _ h => absurd h List.not_mem_nil)⟩) (Nat.le_of_ble_eq_true rfl) ?_
  intro p e s m below meth cd Q ls X hr hlk hnm w hl hQ
  have hl : hp_L ls 1 [some (.int v)] := hl
  refine ro_iload_n X hl dX3_isRegion_0 rfl ?_
  refine lv_iconst (v := 0) X.1 X.2.1 dX3_isRegion_1 (by decide) ?_
  refine lv_iconst (v := 3) X.1 X.2.1 dX3_isRegion_2 (by decide) ?_
  refine ro_kJ (cs_X3_86 X w mt_X3_isIn rfl rfl hl ⟨⟨Nat.le_of_ble_eq_true rfl, Nat.le_of_ble_eq_true rfl⟩, Nat.le_of_ble_eq_true rfl, Nat.le_of_ble_eq_true rfl⟩ (Nat.le_of_ble_eq_true rfl) dX3_isRegion_3) w (fun H locs w => ?_)
  exact ro_retI X w hQ hlk dX3_isRegion_6 hr isb_n (Nat.le_of_ble_eq_true rfl) (Nat.le_of_ble_eq_true rfl) ⟨hp_vi (by rfl), rfl⟩
