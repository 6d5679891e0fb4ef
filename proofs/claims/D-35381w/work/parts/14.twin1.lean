/-! THE REFERENCE: methods that ask, and counts (printed by tools/m14.py) -/
set_option maxRecDepth 100000
theorem TWf.cast {G : hp_G} {x : Nat} {ad : Nat → Nat} {h0 h : hp_H} {T T' : tw_T} (t : TWf G x ad h0 T h) (e : T' = T) : TWf G x ad h0 T' h := e ▸ t
theorem hp_ni (i : Nat) : nI i + Int32.ofInt 1 = nI (i + 1) := nI_1 i
abbrev ix (v : Int32) : Nat := v.toNatClampNeg
/-- v is a place below n -/
def pxn (v : Int32) (n : Nat) : Prop := v = nI (ix v) ∧ ix v < n
theorem pxn.le {v : Int32} {n k : Nat} (h : pxn v n) (hk : n ≤ k) : pxn v k := ⟨h.1, Nat.lt_of_lt_of_le h.2 hk⟩
theorem pxn_nI {j n : Nat} (h : j < n) (hn : n < 2147483648) : pxn (nI j) n := by
  have e : ix (nI j) = j := nI_clamp (by omega)
  exact ⟨by rw [e], by rw [e]; exact h⟩
/-- players, matches, seasons ended, skins: how many; and what lies in the rows -/
def tw_ok (T : tw_T) (np nm se ns : Nat) : Prop := T.1 1 = nI np ∧ np ≤ 16 ∧ T.1 6 = nI nm ∧ nm ≤ 100 ∧ T.1 12 = nI se ∧ se ≤ 11 ∧ T.1 13 = nI ns ∧ ns ≤ 3 * se ∧
  (∀ j, j < nm → pxn (T.2 7 j) np ∧ pxn (T.2 8 j) np ∧ T.2 7 j ≠ T.2 8 j) ∧
  (∀ k, k < ns → (∃ q, T.2 14 k = nI q ∧ q < se) ∧ (∃ q, T.2 15 k = nI q ∧ 1 ≤ q ∧ q ≤ 3) ∧ (T.2 16 k = -1 ∨ pxn (T.2 16 k) np) ∧ (T.2 17 k = -1 ∨ pxn (T.2 17 k) np) ∧ (T.2 18 k = -1 ∨ pxn (T.2 18 k) np) ∧ (T.2 17 k = -1 → T.2 18 k = -1) ∧
    ∃ c, T.2 21 k = nI c ∧ c ≤ 20 ∧ (T.2 20 k = -1 ∨ ∃ i, T.2 20 k = nI i ∧ i < c) ∧ ∀ i, i < c → pxn (T.2 22 (20 * k + i)) np ∧ pxn (T.2 23 (20 * k + i)) np) ∧
  (∀ k k', k < k' → k' < ns → 4 * ix (T.2 14 k) + ix (T.2 15 k) < 4 * ix (T.2 14 k') + ix (T.2 15 k'))
/-- the same but for what is found anew each time (points, many, the text, written, thrown) -/
def tw_sm (T U : tw_T) : Prop := (∀ k, k ≠ 28 → k ≠ 29 → U.1 k = T.1 k) ∧ ∀ k, k ≠ 25 → k ≠ 26 → k ≠ 27 → U.2 k = T.2 k
theorem tw_sm.rf (T : tw_T) : tw_sm T T := ⟨fun _ _ _ => rfl, fun _ _ _ _ => rfl⟩
theorem tw_sm.tr {T U V : tw_T} (a : tw_sm T U) (b : tw_sm U V) : tw_sm T V := ⟨fun k h h' => (b.1 k h h').trans (a.1 k h h'), fun k h h' h2 => (b.2 k h h' h2).trans (a.2 k h h' h2)⟩
theorem tw_sm.s {T U : tw_T} (a : tw_sm T U) (k : Nat) (v : Int32) (hk : k = 28 ∨ k = 29) : tw_sm T (tw_s U k v) := ⟨fun j h h' => (if_neg (by omega) : va_up U.1 k v j = U.1 j).trans (a.1 j h h'), a.2⟩
theorem tw_sm.a {T U : tw_T} (a : tw_sm T U) (k j : Nat) (v : Int32) (hk : k = 25 ∨ k = 26 ∨ k = 27) : tw_sm T (tw_a U k j v) := ⟨a.1, fun i h h' h2 => (if_neg (by omega) : va_up U.2 k (upd (U.2 k) j v) i = U.2 i).trans (a.2 i h h' h2)⟩
theorem tw_ok.sm {T U : tw_T} {np nm se ns : Nat} (h : tw_ok T np nm se ns) (a : tw_sm T U) : tw_ok U np nm se ns := by
  obtain ⟨a1, a2⟩ := a
  unfold tw_ok at h ⊢
  rw [a1 1 (by decide) (by decide), a1 6 (by decide) (by decide), a1 12 (by decide) (by decide), a1 13 (by decide) (by decide), a2 7 (by decide) (by decide) (by decide), a2 8 (by decide) (by decide) (by decide), a2 14 (by decide) (by decide) (by decide), a2 15 (by decide) (by decide) (by decide), a2 16 (by decide) (by decide) (by decide), a2 17 (by decide) (by decide) (by decide), a2 18 (by decide) (by decide) (by decide), a2 20 (by decide) (by decide) (by decide), a2 21 (by decide) (by decide) (by decide), a2 22 (by decide) (by decide) (by decide), a2 23 (by decide) (by decide) (by decide)]
  exact h
/-- a match stands -/
def tw_gd (T : tw_T) (j : Nat) : Int32 := bz (T.2 2 (ix (T.2 7 j)) = -1 ∨ T.2 10 j < T.2 2 (ix (T.2 7 j)))
/-- matches of today in a region, of the first n -/
def tw_td (T : tw_T) (r : Int32) : Nat → Int32
  | 0 => 0
  | n + 1 => tw_td T r n + bz (T.2 9 n = r ∧ T.2 10 n = T.1 0)
def tw_z (T : tw_T) : Nat → tw_T
  | 0 => T
  | k + 1 => tw_a (tw_a (tw_z T k) 25 k 0) 26 k 0
def tw_in (T : tw_T) (k j : Nat) (v : Int32) : tw_T := tw_a T k j (T.2 k j + v)
def tw_c1 (T : tw_T) (s : Int32) (j : Nat) : tw_T := if T.2 11 j = s ∧ tw_gd T j = 1 then tw_in (tw_in (tw_in (tw_in T 25 (ix (T.2 7 j)) 3) 25 (ix (T.2 8 j)) 1) 26 (ix (T.2 7 j)) 1) 26 (ix (T.2 8 j)) 1 else T
def tw_cl (s : Int32) (T : tw_T) : Nat → tw_T
  | 0 => T
  | k + 1 => tw_c1 (tw_cl s T k) s k
/-- counts -/
def tw_cn (T : tw_T) (s : Int32) (np nm : Nat) : tw_T := tw_cl s (tw_z T np) nm
theorem tw_z_sm (T : tw_T) : ∀ n, tw_sm T (tw_z T n)
  | 0 => tw_sm.rf T
  | n + 1 => ((tw_z_sm T n).a 25 n 0 (Or.inl rfl)).a 26 n 0 (Or.inr (Or.inl rfl))
theorem tw_c1_sm {T U : tw_T} (a : tw_sm T U) (s : Int32) (j : Nat) : tw_sm T (tw_c1 U s j) := by
  unfold tw_c1
  split
  · exact (((a.a _ _ _ (Or.inl rfl)).a _ _ _ (Or.inl rfl)).a _ _ _ (Or.inr (Or.inl rfl))).a _ _ _ (Or.inr (Or.inl rfl))
  · exact a
theorem tw_cl_sm {T U : tw_T} (a : tw_sm T U) (s : Int32) : ∀ n, tw_sm T (tw_cl s U n)
  | 0 => a
  | n + 1 => tw_c1_sm (tw_cl_sm a s n) s n
theorem tw_cn_sm (T : tw_T) (s : Int32) (np nm : Nat) : tw_sm T (tw_cn T s np nm) := tw_cl_sm (tw_z_sm T np) s nm
/-- is p ahead of q -/
def tw_ah (T : tw_T) (p q : Nat) : Int32 := if T.2 25 p = T.2 25 q then bz (T.2 26 p < T.2 26 q ∨ (T.2 26 p = T.2 26 q ∧ nI p < nI q)) else bz (T.2 25 q < T.2 25 p)
def tw_p1 (T : tw_T) (p : Nat) : Nat → Int32
  | 0 => 1
  | q + 1 => tw_p1 T p q + bz (¬ nI q = nI p ∧ 0 < T.2 25 q ∧ ¬ tw_ah T q p = 0)
/-- the place of p -/
def tw_pl (T : tw_T) (np p : Nat) : Int32 := if T.2 25 p = 0 then 0 else tw_p1 T p np
def tw_w1 (T : tw_T) (np : Nat) (pl : Int32) : Nat → Int32
  | 0 => -1
  | p + 1 => if tw_pl T np p = pl then nI p else tw_w1 T np pl p
/-- who has a place -/
def tw_who (T : tw_T) (np : Nat) (pl : Int32) : Int32 := tw_w1 T np pl np
theorem mt_X3_thrown {l : Launch} {G : hp_G} {B : Nat} {h : hp_H} {x : Nat} {ad : Nat → Nat} {T : tw_T} (t0 : TW G x ad T h) : hp_M l G B yX3_thrown cX3_thrown 1 (some .int) 1 0 0 [.ref x] h (hp_J h (.int (T.1 29))) := by
  refine hp_M.of (by decide) 0 (List.forall_mem_cons.mpr ⟨rfl, (fun _ h => absurd h List.not_mem_nil)⟩) (Nat.le_of_ble_eq_true rfl) ?_
  intro p e s m below meth cd Q ls X hr hlk hnm w hl hQ
  have hl : hp_L ls 1 [some (.ref x)] := hl
  have tw := t0.f
  refine ro_aload_n X hl dX3_thrown_0 rfl (by first | exact Or.inr ⟨_, rfl⟩ | exact Or.inl rfl | exact va_rf_or _) ?_
  refine gf_X3_79 X w dX3_thrown_1 tw.o rfl ?_
  exact ro_retI X w hQ hlk dX3_thrown_4 hr rfl (Nat.le_of_ble_eq_true rfl) (Nat.le_of_ble_eq_true rfl) ⟨hp_vi (by rfl), rfl⟩
theorem mt_X3_fails {l : Launch} {G : hp_G} {B : Nat} {h : hp_H} {x : Nat} {ad : Nat → Nat} {T : tw_T} {v : Int32} (t0 : TW G x ad T h) : hp_M l G B yX3_fails cX3_fails 2 (some .boolean) 1 0 0 [.ref x, .int v] h (hp_I (.int (bz (0 < v))) (TWf G x ad h (tw_s T 29 v))) := by
  refine hp_M.of (by decide) 0 (List.forall_mem_cons.mpr ⟨rfl, (List.forall_mem_cons.mpr ⟨rfl, (fun _ h => absurd h List.not_mem_nil)⟩)⟩) (Nat.le_of_ble_eq_true rfl) ?_
  intro p e s m below meth cd Q ls X hr hlk hnm w hl hQ
  have hl : hp_L ls 2 [some (.ref x), some (.int v)] := hl
  have tw := t0.f
  refine ro_aload_n X hl dX3_fails_0 rfl (by first | exact Or.inr ⟨_, rfl⟩ | exact Or.inl rfl | exact va_rf_or _) ?_
  refine ro_iload_n X hl dX3_fails_1 rfl ?_
  refine tp_X3_79 X w tw dX3_fails_2 (fun h H locs w tw => ?_)
  refine ro_iload_n X hl dX3_fails_5 rfl ?_
  refine lv_if_le (tgt := 13) X.1 X.2.1 dX3_fails_6 (by decide) (fun c6 => ?_) (fun c6 => ?_)
  · refine lv_iconst (v := 0) X.1 X.2.1 dX3_fails_13 (by decide) ?_
    exact ro_retI X w hQ hlk dX3_fails_14 hr rfl (Nat.le_of_ble_eq_true rfl) (Nat.le_of_ble_eq_true rfl) ⟨hp_vi (by simp [bz, Int32.not_lt, Int32.not_le, *]), tw⟩
  · refine lv_iconst (v := 1) X.1 X.2.1 dX3_fails_9 (by decide) ?_
    refine lv_goto (tgt := 14) X.1 X.2.1 dX3_fails_10 (by decide) ?_
    exact ro_retI X w hQ hlk dX3_fails_14 hr rfl (Nat.le_of_ble_eq_true rfl) (Nat.le_of_ble_eq_true rfl) ⟨hp_vi (by simp [bz, Int32.not_lt, Int32.not_le, *]), tw⟩
theorem mt_X3_isPlayer {l : Launch} {G : hp_G} {B : Nat} {h : hp_H} {x : Nat} {ad : Nat → Nat} {T : tw_T} {v : Int32} (t0 : TW G x ad T h) : hp_M l G B yX3_isPlayer cX3_isPlayer 2 (some .boolean) 2 0 0 [.ref x, .int v] h (hp_J h (.int (isb 0 (T.1 1 - 1) v))) := by
  refine hp_M.of (by decide) 0 (List.forall_mem_cons.mpr ⟨rfl, (List.forall_mem_cons.mpr ⟨rfl, (fun _ h => absurd h List.not_mem_nil)⟩)⟩) (Nat.le_of_ble_eq_true rfl) ?_
  intro p e s m below meth cd Q ls X hr hlk hnm w hl hQ
  have hl : hp_L ls 2 [some (.ref x), some (.int v)] := hl
  have tw := t0.f
  refine ro_iload_n X hl dX3_isPlayer_0 rfl ?_
  refine lv_iconst (v := 0) X.1 X.2.1 dX3_isPlayer_1 (by decide) ?_
  refine ro_aload_n X hl dX3_isPlayer_2 rfl (by first | exact Or.inr ⟨_, rfl⟩ | exact Or.inl rfl | exact va_rf_or _) ?_
  refine gf_X3_83 X w dX3_isPlayer_3 tw.o rfl ?_
  refine lv_iconst (v := 1) X.1 X.2.1 dX3_isPlayer_6 (by decide) ?_
  refine lv_isub X.1 X.2.1 dX3_isPlayer_7 ?_
  refine ro_kJ (cs_X3_86 X w mt_X3_isIn rfl rfl hl ⟨⟨Nat.le_of_ble_eq_true rfl, Nat.le_of_ble_eq_true rfl⟩, Nat.le_of_ble_eq_true rfl, Nat.le_of_ble_eq_true rfl⟩ (Nat.le_of_ble_eq_true rfl) dX3_isPlayer_8) w (fun H locs w => ?_)
  exact ro_retI X w hQ hlk dX3_isPlayer_11 hr isb_n (Nat.le_of_ble_eq_true rfl) (Nat.le_of_ble_eq_true rfl) ⟨hp_vi (by rfl), rfl⟩
theorem mt_X3_isSkin {l : Launch} {G : hp_G} {B : Nat} {h : hp_H} {x : Nat} {ad : Nat → Nat} {T : tw_T} {v : Int32} (t0 : TW G x ad T h) : hp_M l G B yX3_isSkin cX3_isSkin 2 (some .boolean) 2 0 0 [.ref x, .int v] h (hp_J h (.int (isb 0 (T.1 13 - 1) v))) := by
  refine hp_M.of (by decide) 0 (List.forall_mem_cons.mpr ⟨rfl, (List.forall_mem_cons.mpr ⟨rfl, (fun _ h => absurd h List.not_mem_nil)⟩)⟩) (Nat.le_of_ble_eq_true rfl) ?_
  intro p e s m below meth cd Q ls X hr hlk hnm w hl hQ
  have hl : hp_L ls 2 [some (.ref x), some (.int v)] := hl
  have tw := t0.f
  refine ro_iload_n X hl dX3_isSkin_0 rfl ?_
  refine lv_iconst (v := 0) X.1 X.2.1 dX3_isSkin_1 (by decide) ?_
  refine ro_aload_n X hl dX3_isSkin_2 rfl (by first | exact Or.inr ⟨_, rfl⟩ | exact Or.inl rfl | exact va_rf_or _) ?_
  refine gf_X3_133 X w dX3_isSkin_3 tw.o rfl ?_
  refine lv_iconst (v := 1) X.1 X.2.1 dX3_isSkin_6 (by decide) ?_
  refine lv_isub X.1 X.2.1 dX3_isSkin_7 ?_
  refine ro_kJ (cs_X3_86 X w mt_X3_isIn rfl rfl hl ⟨⟨Nat.le_of_ble_eq_true rfl, Nat.le_of_ble_eq_true rfl⟩, Nat.le_of_ble_eq_true rfl, Nat.le_of_ble_eq_true rfl⟩ (Nat.le_of_ble_eq_true rfl) dX3_isSkin_8) w (fun H locs w => ?_)
  exact ro_retI X w hQ hlk dX3_isSkin_11 hr isb_n (Nat.le_of_ble_eq_true rfl) (Nat.le_of_ble_eq_true rfl) ⟨hp_vi (by rfl), rfl⟩
theorem mt_X3_isBanned {l : Launch} {G : hp_G} {B : Nat} {h : hp_H} {x : Nat} {ad : Nat → Nat} {T : tw_T} {v : Int32} (t0 : TW G x ad T h) (hv : pxn v 16) : hp_M l G B yX3_isBanned cX3_isBanned 2 (some .boolean) 1 0 0 [.ref x, .int v] h (hp_J h (.int (bz (T.1 0 < T.2 3 (ix v))))) := by
  refine hp_M.of (by decide) 0 (List.forall_mem_cons.mpr ⟨rfl, (List.forall_mem_cons.mpr ⟨rfl, (fun _ h => absurd h List.not_mem_nil)⟩)⟩) (Nat.le_of_ble_eq_true rfl) ?_
  intro p e s m below meth cd Q ls X hr hlk hnm w hl hQ
  have hl : hp_L ls 2 [some (.ref x), some (.int v)] := hl
  have tw := t0.f
  refine ro_aload_n X hl dX3_isBanned_0 rfl (by first | exact Or.inr ⟨_, rfl⟩ | exact Or.inl rfl | exact va_rf_or _) ?_
  refine gf_X3_90 X w dX3_isBanned_1 tw.o rfl ?_
  refine ro_aload_n X hl dX3_isBanned_4 rfl (by first | exact Or.inr ⟨_, rfl⟩ | exact Or.inl rfl | exact va_rf_or _) ?_
  refine gf_X3_13 X w dX3_isBanned_5 tw.o rfl ?_
  refine ro_iload_n X hl dX3_isBanned_8 rfl ?_
  refine ro_ialdE X w dX3_isBanned_9 (tw.ar 3 (n := 16) rfl rfl) hv.1 hv.2 (by decide) ?_
  refine lv_icmp_ge (tgt := 17) X.1 X.2.1 dX3_isBanned_10 (by decide) (fun c10 => ?_) (fun c10 => ?_)
  · refine lv_iconst (v := 0) X.1 X.2.1 dX3_isBanned_17 (by decide) ?_
    exact ro_retI X w hQ hlk dX3_isBanned_18 hr rfl (Nat.le_of_ble_eq_true rfl) (Nat.le_of_ble_eq_true rfl) ⟨hp_vi (by simp [bz, Int32.not_lt, Int32.not_le, *]), rfl⟩
  · refine lv_iconst (v := 1) X.1 X.2.1 dX3_isBanned_13 (by decide) ?_
    refine lv_goto (tgt := 18) X.1 X.2.1 dX3_isBanned_14 (by decide) ?_
    exact ro_retI X w hQ hlk dX3_isBanned_18 hr rfl (Nat.le_of_ble_eq_true rfl) (Nat.le_of_ble_eq_true rfl) ⟨hp_vi (by simp [bz, Int32.not_lt, Int32.not_le, *]), rfl⟩
theorem mt_X3_isGood {l : Launch} {G : hp_G} {B : Nat} {h : hp_H} {x : Nat} {ad : Nat → Nat} {T : tw_T} {np nm se ns j : Nat} (t0 : TW G x ad T h) (ok : tw_ok T np nm se ns) (hj : j < nm) : hp_M l G B yX3_isGood cX3_isGood 3 (some .boolean) 1 0 0 [.ref x, .int (nI j)] h (hp_J h (.int (tw_gd T j))) := by
  refine hp_M.of (by decide) 1 (List.forall_mem_cons.mpr ⟨rfl, (List.forall_mem_cons.mpr ⟨rfl, (fun _ h => absurd h List.not_mem_nil)⟩)⟩) (Nat.le_of_ble_eq_true rfl) ?_
  intro p e s m below meth cd Q ls X hr hlk hnm w hl hQ
  have hl : hp_L ls 3 [some (.ref x), some (.int (nI j)), none] := hl
  have tw := t0.f
  obtain ⟨o1, o2, o3, o4, o5, o6, o7, o8, om, ok2, ol⟩ := ok
  obtain ⟨hw, hv, -⟩ := om j hj
  have hw2 := hw.2
  refine ro_aload_n X hl dX3_isGood_0 rfl (by first | exact Or.inr ⟨_, rfl⟩ | exact Or.inl rfl | exact va_rf_or _) ?_
  refine gf_X3_7 X w dX3_isGood_1 tw.o rfl ?_
  refine ro_aload_n X hl dX3_isGood_4 rfl (by first | exact Or.inr ⟨_, rfl⟩ | exact Or.inl rfl | exact va_rf_or _) ?_
  refine gf_X3_22 X w dX3_isGood_5 tw.o rfl ?_
  refine ro_iload_n X hl dX3_isGood_8 rfl ?_
  refine ro_ialdE X w dX3_isGood_9 (tw.ar 7 (n := 100) rfl rfl) rfl (by omega) (by decide) ?_
  refine ro_ialdE X w dX3_isGood_10 (tw.ar 2 (n := 16) rfl rfl) hw.1 (by omega) (by decide) ?_
  refine ro_istore_n X hl dX3_isGood_11 (by decide) (fun ls hl => ?_)
  refine ro_iload_n X hl dX3_isGood_12 rfl ?_
  refine lv_iconst (v := (-1)) X.1 X.2.1 dX3_isGood_13 (by decide) ?_
  refine lv_icmp_eq (tgt := 27) X.1 X.2.1 dX3_isGood_14 (by decide) (fun c14 => ?_) (fun c14 => ?_)
  · refine lv_iconst (v := 1) X.1 X.2.1 dX3_isGood_27 (by decide) ?_
    refine lv_goto (tgt := 32) X.1 X.2.1 dX3_isGood_28 (by decide) ?_
    exact ro_retI X w hQ hlk dX3_isGood_32 hr rfl (Nat.le_of_ble_eq_true rfl) (Nat.le_of_ble_eq_true rfl) ⟨hp_vi (by simp [tw_gd, bz, Int32.not_lt, Int32.not_le, *]), rfl⟩
  · refine ro_iload_n X hl dX3_isGood_17 rfl ?_
    refine ro_aload_n X hl dX3_isGood_18 rfl (by first | exact Or.inr ⟨_, rfl⟩ | exact Or.inl rfl | exact va_rf_or _) ?_
    refine gf_X3_31 X w dX3_isGood_19 tw.o rfl ?_
    refine ro_iload_n X hl dX3_isGood_22 rfl ?_
    refine ro_ialdE X w dX3_isGood_23 (tw.ar 10 (n := 100) rfl rfl) rfl (by omega) (by decide) ?_
    refine lv_icmp_le (tgt := 31) X.1 X.2.1 dX3_isGood_24 (by decide) (fun c24 => ?_) (fun c24 => ?_)
    · refine lv_iconst (v := 0) X.1 X.2.1 dX3_isGood_31 (by decide) ?_
      exact ro_retI X w hQ hlk dX3_isGood_32 hr rfl (Nat.le_of_ble_eq_true rfl) (Nat.le_of_ble_eq_true rfl) ⟨hp_vi (by simp [tw_gd, bz, Int32.not_lt, Int32.not_le, *]), rfl⟩
    · refine lv_iconst (v := 1) X.1 X.2.1 dX3_isGood_27 (by decide) ?_
      refine lv_goto (tgt := 32) X.1 X.2.1 dX3_isGood_28 (by decide) ?_
      exact ro_retI X w hQ hlk dX3_isGood_32 hr rfl (Nat.le_of_ble_eq_true rfl) (Nat.le_of_ble_eq_true rfl) ⟨hp_vi (by simp [tw_gd, bz, Int32.not_lt, Int32.not_le, *]), rfl⟩
theorem mt_X3_today {l : Launch} {G : hp_G} {B : Nat} {h : hp_H} {x : Nat} {ad : Nat → Nat} {T : tw_T} {np nm se ns : Nat} {r : Int32} (t0 : TW G x ad T h) (ok : tw_ok T np nm se ns) : hp_M l G B yX3_today cX3_today 4 (some .int) 1 0 0 [.ref x, .int r] h (hp_J h (.int (tw_td T r nm))) := by
  refine hp_M.of (by decide) 2 (List.forall_mem_cons.mpr ⟨rfl, (List.forall_mem_cons.mpr ⟨rfl, (fun _ h => absurd h List.not_mem_nil)⟩)⟩) (Nat.le_of_ble_eq_true rfl) ?_
  intro p e s m below meth cd Q ls X hr hlk hnm w hl hQ
  have hl : hp_L ls 4 [some (.ref x), some (.int r), none, none] := hl
  have tw := t0.f
  obtain ⟨o1, o2, o3, o4, o5, o6, o7, o8, om, ok2, ol⟩ := ok
  refine lv_iconst (v := 0) X.1 X.2.1 dX3_today_0 (by decide) ?_
  refine ro_istore_n X hl dX3_today_1 (by decide) (fun ls hl => ?_)
  refine lv_iconst (v := 0) X.1 X.2.1 dX3_today_2 (by decide) ?_
  refine ro_istore_n X hl dX3_today_3 (by decide) (fun ls hl => ?_)
  have key : ∀ (n i : Nat) (H : Heap) (locs : List Loc) (ls : Array Slot), i + n = nm → hp_Ws G B h s H locs → hp_L ls 4 [some (.ref x), some (.int r), some (.int (tw_td T r i)), some (.int (nI i))] → W p l e (hp_rm 1 0 0) s m ([.ref x, .int r] : List Value).toArray below meth cd H locs 0 0 Q (F0 m 4 ls []) := by
    intro n
    induction n with
    | zero =>
      intro i H locs ls hi w hl
      have hi : i = nm := by omega
      refine ro_iload_n X hl dX3_today_4 rfl ?_
      refine ro_aload_n X hl dX3_today_5 rfl (by first | exact Or.inr ⟨_, rfl⟩ | exact Or.inl rfl | exact va_rf_or _) ?_
      refine gf_X3_97 X w dX3_today_6 tw.o rfl ?_
      refine lv_icmp_ge (tgt := 49) X.1 X.2.1 dX3_today_9 (by decide) (fun c9 => ?_) (fun c9 => ?_)
      · subst hi
        refine ro_iload_n X hl dX3_today_49 rfl ?_
        exact ro_retI X w hQ hlk dX3_today_50 hr rfl (Nat.le_of_ble_eq_true rfl) (Nat.le_of_ble_eq_true rfl) ⟨hp_vi (by rfl), rfl⟩
      · exact absurd (by rw [o3, hi]; exact Int32.le_refl _) c9
    | succ n ih =>
      intro i H locs ls hi w hl
      have J : ∀ v : Int32, v = bz (T.2 9 i = r ∧ T.2 10 i = T.1 0) → W p l e (hp_rm 1 0 0) s m ([.ref x, .int r] : List Value).toArray below meth cd H locs 0 0 Q (F0 m 41 ls [.int v, .int (tw_td T r i)]) := by
        intro v hv
        refine lv_iadd X.1 X.2.1 dX3_today_41 ?_
        refine ro_istore_n X hl dX3_today_42 (by decide) (fun ls hl => ?_)
        refine ro_iinc X hl dX3_today_43 (by decide) rfl (fun ls hl => ?_)
        rw [hp_ni, hv] at hl
        refine lv_goto (tgt := 4) X.1 X.2.1 dX3_today_46 (by decide) ?_
        exact ih (i + 1) _ _ _ (by omega) w hl
      refine ro_iload_n X hl dX3_today_4 rfl ?_
      refine ro_aload_n X hl dX3_today_5 rfl (by first | exact Or.inr ⟨_, rfl⟩ | exact Or.inl rfl | exact va_rf_or _) ?_
      refine gf_X3_97 X w dX3_today_6 tw.o rfl ?_
      refine lv_icmp_ge (tgt := 49) X.1 X.2.1 dX3_today_9 (by decide) (fun c9 => ?_) (fun c9 => ?_)
      · exact absurd c9 (by rw [o3]; exact nI_ge (by omega) (by omega))
      · refine ro_iload_n X hl dX3_today_12 rfl ?_
        refine ro_aload_n X hl dX3_today_13 rfl (by first | exact Or.inr ⟨_, rfl⟩ | exact Or.inl rfl | exact va_rf_or _) ?_
        refine gf_X3_28 X w dX3_today_14 tw.o rfl ?_
        refine ro_iload_n X hl dX3_today_17 rfl ?_
        refine ro_ialdE X w dX3_today_18 (tw.ar 9 (n := 100) rfl rfl) rfl (by omega) (by decide) ?_
        refine ro_iload_n X hl dX3_today_19 rfl ?_
        refine lv_icmp_ne (tgt := 40) X.1 X.2.1 dX3_today_20 (by decide) (fun c20 => ?_) (fun c20 => ?_)
        · refine lv_iconst (v := 0) X.1 X.2.1 dX3_today_40 (by decide) ?_
          exact J _ (by simp [bz, *])
        · refine ro_aload_n X hl dX3_today_23 rfl (by first | exact Or.inr ⟨_, rfl⟩ | exact Or.inl rfl | exact va_rf_or _) ?_
          refine gf_X3_31 X w dX3_today_24 tw.o rfl ?_
          refine ro_iload_n X hl dX3_today_27 rfl ?_
          refine ro_ialdE X w dX3_today_28 (tw.ar 10 (n := 100) rfl rfl) rfl (by omega) (by decide) ?_
          refine ro_aload_n X hl dX3_today_29 rfl (by first | exact Or.inr ⟨_, rfl⟩ | exact Or.inl rfl | exact va_rf_or _) ?_
          refine gf_X3_90 X w dX3_today_30 tw.o rfl ?_
          refine lv_icmp_ne (tgt := 40) X.1 X.2.1 dX3_today_33 (by decide) (fun c33 => ?_) (fun c33 => ?_)
          · refine lv_iconst (v := 0) X.1 X.2.1 dX3_today_40 (by decide) ?_
            exact J _ (by simp [bz, *])
          · refine lv_iconst (v := 1) X.1 X.2.1 dX3_today_36 (by decide) ?_
            refine lv_goto (tgt := 41) X.1 X.2.1 dX3_today_37 (by decide) ?_
            exact J _ (by simp [bz, *])
  exact key nm 0 _ _ ls (by omega) w hl
theorem mt_X3_counts {l : Launch} {G : hp_G} {B : Nat} {h : hp_H} {x : Nat} {ad : Nat → Nat} {T : tw_T} {np nm se ns : Nat} {v : Int32} (t0 : TW G x ad T h) (ok : tw_ok T np nm se ns) : hp_M l G B yX3_counts cX3_counts 3 none 2 0 0 [.ref x, .int v] h (hp_V (TWf G x ad h (tw_cn T v np nm))) := by
  refine hp_M.of (by decide) 1 (List.forall_mem_cons.mpr ⟨rfl, (List.forall_mem_cons.mpr ⟨rfl, (fun _ h => absurd h List.not_mem_nil)⟩)⟩) (Nat.le_of_ble_eq_true rfl) ?_
  intro p e s m below meth cd Q ls X hr hlk hnm w hl hQ
  have hl : hp_L ls 3 [some (.ref x), some (.int v), none] := hl
  have tw := t0.f
  have ok0 := ok
  obtain ⟨o1, o2, o3, o4, o5, o6, o7, o8, om, ok2, ol⟩ := ok
  refine lv_iconst (v := 0) X.1 X.2.1 dX3_counts_0 (by decide) ?_
  refine ro_istore_n X hl dX3_counts_1 (by decide) (fun ls hl => ?_)
  have key : ∀ (n i : Nat) (h1 : hp_H) (H : Heap) (locs : List Loc) (ls : Array Slot), i + n = np → TWf G x ad h (tw_z T i) h1 → hp_Ws G B h1 s H locs → hp_L ls 3 [some (.ref x), some (.int v), some (.int (nI i))] → W p l e (hp_rm 2 0 0) s m ([.ref x, .int v] : List Value).toArray below meth cd H locs 0 0 Q (F0 m 2 ls []) := by
    intro n
    induction n with
    | zero =>
      intro i h1 H locs ls hi tw w hl
      have hi : i = np := by omega
      refine ro_iload_n X hl dX3_counts_2 rfl ?_
      refine ro_aload_n X hl dX3_counts_3 rfl (by first | exact Or.inr ⟨_, rfl⟩ | exact Or.inl rfl | exact va_rf_or _) ?_
      refine gf_X3_83 X w dX3_counts_4 tw.o rfl ?_
      refine lv_icmp_ge (tgt := 30) X.1 X.2.1 dX3_counts_7 (by decide) (fun c7 => ?_) (fun c7 => ?_)
      · subst hi
        refine lv_iconst (v := 0) X.1 X.2.1 dX3_counts_30 (by decide) ?_
        refine ro_istore_n X hl dX3_counts_31 (by decide) (fun ls hl => ?_)
        have key : ∀ (n j : Nat) (h1 : hp_H) (H : Heap) (locs : List Loc) (ls : Array Slot), j + n = nm → TWf G x ad h (tw_cl v (tw_z T i) j) h1 → hp_Ws G B h1 s H locs → hp_L ls 3 [some (.ref x), some (.int v), some (.int (nI j))] → W p l e (hp_rm 2 0 0) s m ([.ref x, .int v] : List Value).toArray below meth cd H locs 0 0 Q (F0 m 32 ls []) := by
          intro n
          induction n with
          | zero =>
            intro j h1 H locs ls hj tw w hl
            have hj : j = nm := by omega
            refine ro_iload_n X hl dX3_counts_32 rfl ?_
            refine ro_aload_n X hl dX3_counts_33 rfl (by first | exact Or.inr ⟨_, rfl⟩ | exact Or.inl rfl | exact va_rf_or _) ?_
            refine gf_X3_97 X w dX3_counts_34 tw.o rfl ?_
            refine lv_icmp_ge (tgt := 124) X.1 X.2.1 dX3_counts_37 (by decide) (fun c37 => ?_) (fun c37 => ?_)
            · subst hj
              exact ro_ret0 X w hQ hlk dX3_counts_124 hr (Nat.le_of_ble_eq_true rfl) (Nat.le_of_ble_eq_true rfl) ⟨rfl, tw⟩
            · exact absurd (by rw [(tw_cl_sm (tw_z_sm T i) v j).1 6 (by decide) (by decide), o3, hj]; exact Int32.le_refl _) c37
          | succ n ih =>
            intro j h1 H locs ls hj tw w hl
            have sm := tw_cl_sm (tw_z_sm T i) v j
            have okU := ok0.sm sm
            obtain ⟨hw, hv, -⟩ := okU.2.2.2.2.2.2.2.2.1 j (by omega)
            have hw2 := hw.2
            have hv2 := hv.2
            have eU : tw_cl v (tw_z T i) (j + 1) = tw_c1 (tw_cl v (tw_z T i) j) v j := rfl
            generalize tw_cl v (tw_z T i) j = U at tw sm okU hw hv hw2 hv2 eU
            refine ro_iload_n X hl dX3_counts_32 rfl ?_
            refine ro_aload_n X hl dX3_counts_33 rfl (by first | exact Or.inr ⟨_, rfl⟩ | exact Or.inl rfl | exact va_rf_or _) ?_
            refine gf_X3_97 X w dX3_counts_34 tw.o rfl ?_
            refine lv_icmp_ge (tgt := 124) X.1 X.2.1 dX3_counts_37 (by decide) (fun c37 => ?_) (fun c37 => ?_)
            · exact absurd c37 (by rw [sm.1 6 (by decide) (by decide), o3]; exact nI_ge (by omega) (by omega))
            · refine ro_aload_n X hl dX3_counts_40 rfl (by first | exact Or.inr ⟨_, rfl⟩ | exact Or.inl rfl | exact va_rf_or _) ?_
              refine gf_X3_34 X w dX3_counts_41 tw.o rfl ?_
              refine ro_iload_n X hl dX3_counts_44 rfl ?_
              refine ro_ialdE X w dX3_counts_45 (tw.ar 11 (n := 100) rfl rfl) rfl (by omega) (by decide) ?_
              refine ro_iload_n X hl dX3_counts_46 rfl ?_
              refine lv_icmp_ne (tgt := 118) X.1 X.2.1 dX3_counts_47 (by decide) (fun c47 => ?_) (fun c47 => ?_)
              · have tw := tw.cast (eU.trans (if_neg (fun q => c47 q.1)))
                refine ro_iinc X hl dX3_counts_118 (by decide) rfl (fun ls hl => ?_)
                rw [hp_ni] at hl
                refine lv_goto (tgt := 32) X.1 X.2.1 dX3_counts_121 (by decide) ?_
                exact ih (j + 1) _ _ _ _ (by omega) tw w hl
              · refine ro_aload_n X hl dX3_counts_50 rfl (by first | exact Or.inr ⟨_, rfl⟩ | exact Or.inl rfl | exact va_rf_or _) ?_
                refine ro_iload_n X hl dX3_counts_51 rfl ?_
                refine ro_kJ (cs_X3_116 X w tw.o (mt_X3_isGood tw.1 okU (j := j) (by omega)) rfl rfl hl ⟨⟨Nat.le_of_ble_eq_true rfl, Nat.le_of_ble_eq_true rfl⟩, Nat.le_of_ble_eq_true rfl, Nat.le_of_ble_eq_true rfl⟩ (Nat.le_of_ble_eq_true rfl) dX3_counts_52) w (fun H locs w => ?_)
                refine lv_if_eq (tgt := 118) X.1 X.2.1 dX3_counts_55 (by decide) (fun c55 => ?_) (fun c55 => ?_)
                · have tw := tw.cast (eU.trans (if_neg (fun q => by rw [q.2] at c55; exact absurd c55 (by decide))))
                  refine ro_iinc X hl dX3_counts_118 (by decide) rfl (fun ls hl => ?_)
                  rw [hp_ni] at hl
                  refine lv_goto (tgt := 32) X.1 X.2.1 dX3_counts_121 (by decide) ?_
                  exact ih (j + 1) _ _ _ _ (by omega) tw w hl
                · refine ro_aload_n X hl dX3_counts_58 rfl (by first | exact Or.inr ⟨_, rfl⟩ | exact Or.inl rfl | exact va_rf_or _) ?_
                  refine gf_X3_70 X w dX3_counts_59 tw.o rfl ?_
                  refine ro_aload_n X hl dX3_counts_62 rfl (by first | exact Or.inr ⟨_, rfl⟩ | exact Or.inl rfl | exact va_rf_or _) ?_
                  refine gf_X3_22 X w dX3_counts_63 tw.o rfl ?_
                  refine ro_iload_n X hl dX3_counts_66 rfl ?_
                  refine ro_ialdE X w dX3_counts_67 (tw.ar 7 (n := 100) rfl rfl) rfl (by omega) (by decide) ?_
                  refine lv_dup2_11 X.1 X.2.1 dX3_counts_68 rfl rfl ?_
                  refine ro_ialdE X w dX3_counts_69 (tw.ar 25 (n := 16) rfl rfl) hw.1 (by omega) (by decide) ?_
                  refine lv_iconst (v := 3) X.1 X.2.1 dX3_counts_70 (by decide) ?_
                  refine lv_iadd X.1 X.2.1 dX3_counts_71 ?_
                  refine tw_iast X w tw 25 (n := 16) rfl rfl dX3_counts_72 hw.1 (by omega) (by decide) (fun h H locs w tw => ?_)
                  refine ro_aload_n X hl dX3_counts_73 rfl (by first | exact Or.inr ⟨_, rfl⟩ | exact Or.inl rfl | exact va_rf_or _) ?_
                  refine gf_X3_70 X w dX3_counts_74 tw.o rfl ?_
                  refine ro_aload_n X hl dX3_counts_77 rfl (by first | exact Or.inr ⟨_, rfl⟩ | exact Or.inl rfl | exact va_rf_or _) ?_
                  refine gf_X3_25 X w dX3_counts_78 tw.o rfl ?_
                  refine ro_iload_n X hl dX3_counts_81 rfl ?_
                  refine ro_ialdE X w dX3_counts_82 (tw.ar 8 (n := 100) rfl rfl) rfl (by omega) (by decide) ?_
                  refine lv_dup2_11 X.1 X.2.1 dX3_counts_83 rfl rfl ?_
                  refine ro_ialdE X w dX3_counts_84 (tw.ar 25 (n := 16) rfl rfl) hv.1 (by omega) (by decide) ?_
                  refine lv_iconst (v := 1) X.1 X.2.1 dX3_counts_85 (by decide) ?_
                  refine lv_iadd X.1 X.2.1 dX3_counts_86 ?_
                  refine tw_iast X w tw 25 (n := 16) rfl rfl dX3_counts_87 hv.1 (by omega) (by decide) (fun h H locs w tw => ?_)
                  refine ro_aload_n X hl dX3_counts_88 rfl (by first | exact Or.inr ⟨_, rfl⟩ | exact Or.inl rfl | exact va_rf_or _) ?_
                  refine gf_X3_73 X w dX3_counts_89 tw.o rfl ?_
                  refine ro_aload_n X hl dX3_counts_92 rfl (by first | exact Or.inr ⟨_, rfl⟩ | exact Or.inl rfl | exact va_rf_or _) ?_
                  refine gf_X3_22 X w dX3_counts_93 tw.o rfl ?_
                  refine ro_iload_n X hl dX3_counts_96 rfl ?_
                  refine ro_ialdE X w dX3_counts_97 (tw.ar 7 (n := 100) rfl rfl) rfl (by omega) (by decide) ?_
                  refine lv_dup2_11 X.1 X.2.1 dX3_counts_98 rfl rfl ?_
                  refine ro_ialdE X w dX3_counts_99 (tw.ar 26 (n := 16) rfl rfl) hw.1 (by omega) (by decide) ?_
                  refine lv_iconst (v := 1) X.1 X.2.1 dX3_counts_100 (by decide) ?_
                  refine lv_iadd X.1 X.2.1 dX3_counts_101 ?_
                  refine tw_iast X w tw 26 (n := 16) rfl rfl dX3_counts_102 hw.1 (by omega) (by decide) (fun h H locs w tw => ?_)
                  refine ro_aload_n X hl dX3_counts_103 rfl (by first | exact Or.inr ⟨_, rfl⟩ | exact Or.inl rfl | exact va_rf_or _) ?_
                  refine gf_X3_73 X w dX3_counts_104 tw.o rfl ?_
                  refine ro_aload_n X hl dX3_counts_107 rfl (by first | exact Or.inr ⟨_, rfl⟩ | exact Or.inl rfl | exact va_rf_or _) ?_
                  refine gf_X3_25 X w dX3_counts_108 tw.o rfl ?_
                  refine ro_iload_n X hl dX3_counts_111 rfl ?_
                  refine ro_ialdE X w dX3_counts_112 (tw.ar 8 (n := 100) rfl rfl) rfl (by omega) (by decide) ?_
                  refine lv_dup2_11 X.1 X.2.1 dX3_counts_113 rfl rfl ?_
                  refine ro_ialdE X w dX3_counts_114 (tw.ar 26 (n := 16) rfl rfl) hv.1 (by omega) (by decide) ?_
                  refine lv_iconst (v := 1) X.1 X.2.1 dX3_counts_115 (by decide) ?_
                  refine lv_iadd X.1 X.2.1 dX3_counts_116 ?_
                  refine tw_iast X w tw 26 (n := 16) rfl rfl dX3_counts_117 hv.1 (by omega) (by decide) (fun h H locs w tw => ?_)
                  have tw := tw.cast (eU.trans (if_pos ⟨c47, (bz_01 _).resolve_left c55⟩))
                  refine ro_iinc X hl dX3_counts_118 (by decide) rfl (fun ls hl => ?_)
                  rw [hp_ni] at hl
                  refine lv_goto (tgt := 32) X.1 X.2.1 dX3_counts_121 (by decide) ?_
                  exact ih (j + 1) _ _ _ _ (by omega) tw w hl
        exact key nm 0 _ _ _ ls (by omega) tw w hl
      · exact absurd (by rw [(tw_z_sm T i).1 1 (by decide) (by decide), o1, hi]; exact Int32.le_refl _) c7
    | succ n ih =>
      intro i h1 H locs ls hi tw w hl
      refine ro_iload_n X hl dX3_counts_2 rfl ?_
      refine ro_aload_n X hl dX3_counts_3 rfl (by first | exact Or.inr ⟨_, rfl⟩ | exact Or.inl rfl | exact va_rf_or _) ?_
      refine gf_X3_83 X w dX3_counts_4 tw.o rfl ?_
      refine lv_icmp_ge (tgt := 30) X.1 X.2.1 dX3_counts_7 (by decide) (fun c7 => ?_) (fun c7 => ?_)
      · exact absurd c7 (by rw [(tw_z_sm T i).1 1 (by decide) (by decide), o1]; exact nI_ge (by omega) (by omega))
      · refine ro_aload_n X hl dX3_counts_10 rfl (by first | exact Or.inr ⟨_, rfl⟩ | exact Or.inl rfl | exact va_rf_or _) ?_
        refine gf_X3_70 X w dX3_counts_11 tw.o rfl ?_
        refine ro_iload_n X hl dX3_counts_14 rfl ?_
        refine lv_iconst (v := 0) X.1 X.2.1 dX3_counts_15 (by decide) ?_
        refine tw_iast X w tw 25 (n := 16) rfl rfl dX3_counts_16 rfl (by omega) (by decide) (fun h H locs w tw => ?_)
        refine ro_aload_n X hl dX3_counts_17 rfl (by first | exact Or.inr ⟨_, rfl⟩ | exact Or.inl rfl | exact va_rf_or _) ?_
        refine gf_X3_73 X w dX3_counts_18 tw.o rfl ?_
        refine ro_iload_n X hl dX3_counts_21 rfl ?_
        refine lv_iconst (v := 0) X.1 X.2.1 dX3_counts_22 (by decide) ?_
        refine tw_iast X w tw 26 (n := 16) rfl rfl dX3_counts_23 rfl (by omega) (by decide) (fun h H locs w tw => ?_)
        refine ro_iinc X hl dX3_counts_24 (by decide) rfl (fun ls hl => ?_)
        rw [hp_ni] at hl
        refine lv_goto (tgt := 2) X.1 X.2.1 dX3_counts_27 (by decide) ?_
        exact ih (i + 1) _ _ _ _ (by omega) tw w hl
  exact key np 0 _ _ _ ls (by omega) tw w hl
theorem mt_X3_isAhead {l : Launch} {G : hp_G} {B : Nat} {h : hp_H} {x : Nat} {ad : Nat → Nat} {T : tw_T} {i j : Nat} (t0 : TW G x ad T h) (hi : i < 16) (hj : j < 16) : hp_M l G B yX3_isAhead cX3_isAhead 3 (some .boolean) 1 0 0 [.ref x, .int (nI i), .int (nI j)] h (hp_J h (.int (tw_ah T i j))) := by
  refine hp_M.of (by decide) 0 (List.forall_mem_cons.mpr ⟨rfl, (List.forall_mem_cons.mpr ⟨rfl, (List.forall_mem_cons.mpr ⟨rfl, (fun _ h => absurd h List.not_mem_nil)⟩)⟩)⟩) (Nat.le_of_ble_eq_true rfl) ?_
  intro p e s m below meth cd Q ls X hr hlk hnm w hl hQ
  have hl : hp_L ls 3 [some (.ref x), some (.int (nI i)), some (.int (nI j))] := hl
  have tw := t0.f
  refine ro_aload_n X hl dX3_isAhead_0 rfl (by first | exact Or.inr ⟨_, rfl⟩ | exact Or.inl rfl | exact va_rf_or _) ?_
  refine gf_X3_70 X w dX3_isAhead_1 tw.o rfl ?_
  refine ro_iload_n X hl dX3_isAhead_4 rfl ?_
  refine ro_ialdE X w dX3_isAhead_5 (tw.ar 25 (n := 16) rfl rfl) rfl (by omega) (by decide) ?_
  refine ro_aload_n X hl dX3_isAhead_6 rfl (by first | exact Or.inr ⟨_, rfl⟩ | exact Or.inl rfl | exact va_rf_or _) ?_
  refine gf_X3_70 X w dX3_isAhead_7 tw.o rfl ?_
  refine ro_iload_n X hl dX3_isAhead_10 rfl ?_
  refine ro_ialdE X w dX3_isAhead_11 (tw.ar 25 (n := 16) rfl rfl) rfl (by omega) (by decide) ?_
  refine lv_icmp_eq (tgt := 36) X.1 X.2.1 dX3_isAhead_12 (by decide) (fun c12 => ?_) (fun c12 => ?_)
  · refine ro_aload_n X hl dX3_isAhead_36 rfl (by first | exact Or.inr ⟨_, rfl⟩ | exact Or.inl rfl | exact va_rf_or _) ?_
    refine gf_X3_73 X w dX3_isAhead_37 tw.o rfl ?_
    refine ro_iload_n X hl dX3_isAhead_40 rfl ?_
    refine ro_ialdE X w dX3_isAhead_41 (tw.ar 26 (n := 16) rfl rfl) rfl (by omega) (by decide) ?_
    refine ro_aload_n X hl dX3_isAhead_42 rfl (by first | exact Or.inr ⟨_, rfl⟩ | exact Or.inl rfl | exact va_rf_or _) ?_
    refine gf_X3_73 X w dX3_isAhead_43 tw.o rfl ?_
    refine ro_iload_n X hl dX3_isAhead_46 rfl ?_
    refine ro_ialdE X w dX3_isAhead_47 (tw.ar 26 (n := 16) rfl rfl) rfl (by omega) (by decide) ?_
    refine lv_icmp_lt (tgt := 71) X.1 X.2.1 dX3_isAhead_48 (by decide) (fun c48 => ?_) (fun c48 => ?_)
    · refine lv_iconst (v := 1) X.1 X.2.1 dX3_isAhead_71 (by decide) ?_
      refine lv_goto (tgt := 76) X.1 X.2.1 dX3_isAhead_72 (by decide) ?_
      exact ro_retI X w hQ hlk dX3_isAhead_76 hr rfl (Nat.le_of_ble_eq_true rfl) (Nat.le_of_ble_eq_true rfl) ⟨hp_vi (by simp [tw_ah, bz, Int32.not_lt, Int32.not_le, Int32.lt_irrefl, *]), rfl⟩
    · refine ro_aload_n X hl dX3_isAhead_51 rfl (by first | exact Or.inr ⟨_, rfl⟩ | exact Or.inl rfl | exact va_rf_or _) ?_
      refine gf_X3_73 X w dX3_isAhead_52 tw.o rfl ?_
      refine ro_iload_n X hl dX3_isAhead_55 rfl ?_
      refine ro_ialdE X w dX3_isAhead_56 (tw.ar 26 (n := 16) rfl rfl) rfl (by omega) (by decide) ?_
      refine ro_aload_n X hl dX3_isAhead_57 rfl (by first | exact Or.inr ⟨_, rfl⟩ | exact Or.inl rfl | exact va_rf_or _) ?_
      refine gf_X3_73 X w dX3_isAhead_58 tw.o rfl ?_
      refine ro_iload_n X hl dX3_isAhead_61 rfl ?_
      refine ro_ialdE X w dX3_isAhead_62 (tw.ar 26 (n := 16) rfl rfl) rfl (by omega) (by decide) ?_
      refine lv_icmp_ne (tgt := 75) X.1 X.2.1 dX3_isAhead_63 (by decide) (fun c63 => ?_) (fun c63 => ?_)
      · refine lv_iconst (v := 0) X.1 X.2.1 dX3_isAhead_75 (by decide) ?_
        exact ro_retI X w hQ hlk dX3_isAhead_76 hr rfl (Nat.le_of_ble_eq_true rfl) (Nat.le_of_ble_eq_true rfl) ⟨hp_vi (by simp [tw_ah, bz, Int32.not_lt, Int32.not_le, Int32.lt_irrefl, *]), rfl⟩
      · refine ro_iload_n X hl dX3_isAhead_66 rfl ?_
        refine ro_iload_n X hl dX3_isAhead_67 rfl ?_
        refine lv_icmp_ge (tgt := 75) X.1 X.2.1 dX3_isAhead_68 (by decide) (fun c68 => ?_) (fun c68 => ?_)
        · refine lv_iconst (v := 0) X.1 X.2.1 dX3_isAhead_75 (by decide) ?_
          exact ro_retI X w hQ hlk dX3_isAhead_76 hr rfl (Nat.le_of_ble_eq_true rfl) (Nat.le_of_ble_eq_true rfl) ⟨hp_vi (by simp [tw_ah, bz, Int32.not_lt, Int32.not_le, Int32.lt_irrefl, *]), rfl⟩
        · refine lv_iconst (v := 1) X.1 X.2.1 dX3_isAhead_71 (by decide) ?_
          refine lv_goto (tgt := 76) X.1 X.2.1 dX3_isAhead_72 (by decide) ?_
          exact ro_retI X w hQ hlk dX3_isAhead_76 hr rfl (Nat.le_of_ble_eq_true rfl) (Nat.le_of_ble_eq_true rfl) ⟨hp_vi (by simp [tw_ah, bz, Int32.not_lt, Int32.not_le, Int32.lt_irrefl, *]), rfl⟩
  · refine ro_aload_n X hl dX3_isAhead_15 rfl (by first | exact Or.inr ⟨_, rfl⟩ | exact Or.inl rfl | exact va_rf_or _) ?_
    refine gf_X3_70 X w dX3_isAhead_16 tw.o rfl ?_
    refine ro_iload_n X hl dX3_isAhead_19 rfl ?_
    refine ro_ialdE X w dX3_isAhead_20 (tw.ar 25 (n := 16) rfl rfl) rfl (by omega) (by decide) ?_
    refine ro_aload_n X hl dX3_isAhead_21 rfl (by first | exact Or.inr ⟨_, rfl⟩ | exact Or.inl rfl | exact va_rf_or _) ?_
    refine gf_X3_70 X w dX3_isAhead_22 tw.o rfl ?_
    refine ro_iload_n X hl dX3_isAhead_25 rfl ?_
    refine ro_ialdE X w dX3_isAhead_26 (tw.ar 25 (n := 16) rfl rfl) rfl (by omega) (by decide) ?_
    refine lv_icmp_le (tgt := 34) X.1 X.2.1 dX3_isAhead_27 (by decide) (fun c27 => ?_) (fun c27 => ?_)
    · refine lv_iconst (v := 0) X.1 X.2.1 dX3_isAhead_34 (by decide) ?_
      exact ro_retI X w hQ hlk dX3_isAhead_35 hr rfl (Nat.le_of_ble_eq_true rfl) (Nat.le_of_ble_eq_true rfl) ⟨hp_vi (by simp [tw_ah, bz, Int32.not_lt, Int32.not_le, Int32.lt_irrefl, *]), rfl⟩
    · refine lv_iconst (v := 1) X.1 X.2.1 dX3_isAhead_30 (by decide) ?_
      refine lv_goto (tgt := 35) X.1 X.2.1 dX3_isAhead_31 (by decide) ?_
      exact ro_retI X w hQ hlk dX3_isAhead_35 hr rfl (Nat.le_of_ble_eq_true rfl) (Nat.le_of_ble_eq_true rfl) ⟨hp_vi (by simp [tw_ah, bz, Int32.not_lt, Int32.not_le, Int32.lt_irrefl, *]), rfl⟩
theorem tw_ah_01 (T : tw_T) (i j : Nat) : tw_ah T i j = 0 ∨ tw_ah T i j = 1 := by unfold tw_ah; split <;> exact bz_01 _
theorem mt_X3_placeOf {l : Launch} {G : hp_G} {B : Nat} {h : hp_H} {x : Nat} {ad : Nat → Nat} {T : tw_T} {np q : Nat} (t0 : TW G x ad T h) (o1 : T.1 1 = nI np) (o2 : np ≤ 16) (hq : q < np) : hp_M l G B yX3_placeOf cX3_placeOf 4 (some .int) 2 0 0 [.ref x, .int (nI q)] h (hp_J h (.int (tw_pl T np q))) := by
  refine hp_M.of (by decide) 2 (List.forall_mem_cons.mpr ⟨rfl, (List.forall_mem_cons.mpr ⟨rfl, (fun _ h => absurd h List.not_mem_nil)⟩)⟩) (Nat.le_of_ble_eq_true rfl) ?_
  intro p e s m below meth cd Q ls X hr hlk hnm w hl hQ
  have hl : hp_L ls 4 [some (.ref x), some (.int (nI q)), none, none] := hl
  have tw := t0.f
  refine lv_iconst (v := 1) X.1 X.2.1 dX3_placeOf_0 (by decide) ?_
  refine ro_istore_n X hl dX3_placeOf_1 (by decide) (fun ls hl => ?_)
  refine lv_iconst (v := 0) X.1 X.2.1 dX3_placeOf_2 (by decide) ?_
  refine ro_istore_n X hl dX3_placeOf_3 (by decide) (fun ls hl => ?_)
  have key : ∀ (n i : Nat) (H : Heap) (locs : List Loc) (ls : Array Slot), i + n = np → hp_Ws G B h s H locs → hp_L ls 4 [some (.ref x), some (.int (nI q)), some (.int (tw_p1 T q i)), some (.int (nI i))] → W p l e (hp_rm 2 0 0) s m ([.ref x, .int (nI q)] : List Value).toArray below meth cd H locs 0 0 Q (F0 m 4 ls []) := by
    intro n
    induction n with
    | zero =>
      intro i H locs ls hi w hl
      have hi : i = np := by omega
      refine ro_iload_n X hl dX3_placeOf_4 rfl ?_
      refine ro_aload_n X hl dX3_placeOf_5 rfl (by first | exact Or.inr ⟨_, rfl⟩ | exact Or.inl rfl | exact va_rf_or _) ?_
      refine gf_X3_83 X w dX3_placeOf_6 tw.o rfl ?_
      refine lv_icmp_ge (tgt := 49) X.1 X.2.1 dX3_placeOf_9 (by decide) (fun c9 => ?_) (fun c9 => ?_)
      · subst hi
        refine ro_aload_n X hl dX3_placeOf_49 rfl (by first | exact Or.inr ⟨_, rfl⟩ | exact Or.inl rfl | exact va_rf_or _) ?_
        refine gf_X3_70 X w dX3_placeOf_50 tw.o rfl ?_
        refine ro_iload_n X hl dX3_placeOf_53 rfl ?_
        refine ro_ialdE X w dX3_placeOf_54 (tw.ar 25 (n := 16) rfl rfl) rfl (by omega) (by decide) ?_
        refine lv_if_ne (tgt := 62) X.1 X.2.1 dX3_placeOf_55 (by decide) (fun c55 => ?_) (fun c55 => ?_)
        · refine ro_iload_n X hl dX3_placeOf_62 rfl ?_
          exact ro_retI X w hQ hlk dX3_placeOf_63 hr rfl (Nat.le_of_ble_eq_true rfl) (Nat.le_of_ble_eq_true rfl) ⟨hp_vi (by simp [tw_pl, *]), rfl⟩
        · refine lv_iconst (v := 0) X.1 X.2.1 dX3_placeOf_58 (by decide) ?_
          refine lv_goto (tgt := 63) X.1 X.2.1 dX3_placeOf_59 (by decide) ?_
          exact ro_retI X w hQ hlk dX3_placeOf_63 hr rfl (Nat.le_of_ble_eq_true rfl) (Nat.le_of_ble_eq_true rfl) ⟨hp_vi (by simp [tw_pl, *]), rfl⟩
      · exact absurd (by rw [o1, hi]; exact Int32.le_refl _) c9
    | succ n ih =>
      intro i H locs ls hi w hl
      have J : ∀ (v : Int32) (H : Heap) (locs : List Loc), hp_Ws G B h s H locs → v = bz (¬ nI i = nI q ∧ 0 < T.2 25 i ∧ ¬ tw_ah T i q = 0) → W p l e (hp_rm 2 0 0) s m ([.ref x, .int (nI q)] : List Value).toArray below meth cd H locs 0 0 Q (F0 m 41 ls [.int v, .int (tw_p1 T q i)]) := by
        intro v H locs w hv
        refine lv_iadd X.1 X.2.1 dX3_placeOf_41 ?_
        refine ro_istore_n X hl dX3_placeOf_42 (by decide) (fun ls hl => ?_)
        refine ro_iinc X hl dX3_placeOf_43 (by decide) rfl (fun ls hl => ?_)
        rw [hp_ni, hv] at hl
        refine lv_goto (tgt := 4) X.1 X.2.1 dX3_placeOf_46 (by decide) ?_
        exact ih (i + 1) _ _ _ (by omega) w hl
      refine ro_iload_n X hl dX3_placeOf_4 rfl ?_
      refine ro_aload_n X hl dX3_placeOf_5 rfl (by first | exact Or.inr ⟨_, rfl⟩ | exact Or.inl rfl | exact va_rf_or _) ?_
      refine gf_X3_83 X w dX3_placeOf_6 tw.o rfl ?_
      refine lv_icmp_ge (tgt := 49) X.1 X.2.1 dX3_placeOf_9 (by decide) (fun c9 => ?_) (fun c9 => ?_)
      · exact absurd c9 (by rw [o1]; exact nI_ge (by omega) (by omega))
      · refine ro_iload_n X hl dX3_placeOf_12 rfl ?_
        refine ro_iload_n X hl dX3_placeOf_13 rfl ?_
        refine ro_iload_n X hl dX3_placeOf_14 rfl ?_
        refine lv_icmp_eq (tgt := 40) X.1 X.2.1 dX3_placeOf_15 (by decide) (fun c15 => ?_) (fun c15 => ?_)
        · refine lv_iconst (v := 0) X.1 X.2.1 dX3_placeOf_40 (by decide) ?_
          exact J _ _ _ w (by simp [bz, *])
        · refine ro_aload_n X hl dX3_placeOf_18 rfl (by first | exact Or.inr ⟨_, rfl⟩ | exact Or.inl rfl | exact va_rf_or _) ?_
          refine gf_X3_70 X w dX3_placeOf_19 tw.o rfl ?_
          refine ro_iload_n X hl dX3_placeOf_22 rfl ?_
          refine ro_ialdE X w dX3_placeOf_23 (tw.ar 25 (n := 16) rfl rfl) rfl (by omega) (by decide) ?_
          refine lv_if_le (tgt := 40) X.1 X.2.1 dX3_placeOf_24 (by decide) (fun c24 => ?_) (fun c24 => ?_)
          · refine lv_iconst (v := 0) X.1 X.2.1 dX3_placeOf_40 (by decide) ?_
            exact J _ _ _ w (by simp [bz, Int32.not_lt.mpr c24, *])
          · refine ro_aload_n X hl dX3_placeOf_27 rfl (by first | exact Or.inr ⟨_, rfl⟩ | exact Or.inl rfl | exact va_rf_or _) ?_
            refine ro_iload_n X hl dX3_placeOf_28 rfl ?_
            refine ro_iload_n X hl dX3_placeOf_29 rfl ?_
            refine ro_kJ (cs_X3_119 X w tw.o (mt_X3_isAhead tw.1 (i := i) (j := q) (by omega) (by omega)) rfl rfl hl ⟨⟨Nat.le_of_ble_eq_true rfl, Nat.le_of_ble_eq_true rfl⟩, Nat.le_of_ble_eq_true rfl, Nat.le_of_ble_eq_true rfl⟩ (Nat.le_of_ble_eq_true rfl) dX3_placeOf_30) w (fun H locs w => ?_)
            refine lv_if_eq (tgt := 40) X.1 X.2.1 dX3_placeOf_33 (by decide) (fun c33 => ?_) (fun c33 => ?_)
            · refine lv_iconst (v := 0) X.1 X.2.1 dX3_placeOf_40 (by decide) ?_
              exact J _ _ _ w (by simp [bz, *])
            · refine lv_iconst (v := 1) X.1 X.2.1 dX3_placeOf_36 (by decide) ?_
              refine lv_goto (tgt := 41) X.1 X.2.1 dX3_placeOf_37 (by decide) ?_
              exact J _ _ _ w (by simp [bz, Int32.not_lt, Int32.not_le.mp, *])
  exact key np 0 _ _ ls (by omega) w hl
theorem mt_X3_placeOf' {l : Launch} {G : hp_G} {B : Nat} {h : hp_H} {x : Nat} {ad : Nat → Nat} {T : tw_T} {np : Nat} {v : Int32} (t0 : TW G x ad T h) (o1 : T.1 1 = nI np) (o2 : np ≤ 16) (hv : pxn v np) : hp_M l G B yX3_placeOf cX3_placeOf 4 (some .int) 2 0 0 [.ref x, .int v] h (hp_J h (.int (tw_pl T np (ix v)))) := by
  obtain ⟨e, h2⟩ := hv
  have z := mt_X3_placeOf (l := l) (B := B) t0 o1 o2 h2
  rw [← e] at z
  exact z
theorem mt_X3_who {l : Launch} {G : hp_G} {B : Nat} {h : hp_H} {x : Nat} {ad : Nat → Nat} {T : tw_T} {np : Nat} {v : Int32} (t0 : TW G x ad T h) (o1 : T.1 1 = nI np) (o2 : np ≤ 16) : hp_M l G B yX3_who cX3_who 4 (some .int) 3 0 0 [.ref x, .int v] h (hp_J h (.int (tw_who T np v))) := by
  refine hp_M.of (by decide) 2 (List.forall_mem_cons.mpr ⟨rfl, (List.forall_mem_cons.mpr ⟨rfl, (fun _ h => absurd h List.not_mem_nil)⟩)⟩) (Nat.le_of_ble_eq_true rfl) ?_
  intro p e s m below meth cd Q ls X hr hlk hnm w hl hQ
  have hl : hp_L ls 4 [some (.ref x), some (.int v), none, none] := hl
  have tw := t0.f
  refine lv_iconst (v := (-1)) X.1 X.2.1 dX3_who_0 (by decide) ?_
  refine ro_istore_n X hl dX3_who_1 (by decide) (fun ls hl => ?_)
  refine lv_iconst (v := 0) X.1 X.2.1 dX3_who_2 (by decide) ?_
  refine ro_istore_n X hl dX3_who_3 (by decide) (fun ls hl => ?_)
  have key : ∀ (n i : Nat) (H : Heap) (locs : List Loc) (ls : Array Slot), i + n = np → hp_Ws G B h s H locs → hp_L ls 4 [some (.ref x), some (.int v), some (.int (tw_w1 T np v i)), some (.int (nI i))] → W p l e (hp_rm 3 0 0) s m ([.ref x, .int v] : List Value).toArray below meth cd H locs 0 0 Q (F0 m 4 ls []) := by
    intro n
    induction n with
    | zero =>
      intro i H locs ls hi w hl
      have hi : i = np := by omega
      refine ro_iload_n X hl dX3_who_4 rfl ?_
      refine ro_aload_n X hl dX3_who_5 rfl (by first | exact Or.inr ⟨_, rfl⟩ | exact Or.inl rfl | exact va_rf_or _) ?_
      refine gf_X3_83 X w dX3_who_6 tw.o rfl ?_
      refine lv_icmp_ge (tgt := 33) X.1 X.2.1 dX3_who_9 (by decide) (fun c9 => ?_) (fun c9 => ?_)
      · subst hi
        refine ro_iload_n X hl dX3_who_33 rfl ?_
        exact ro_retI X w hQ hlk dX3_who_34 hr rfl (Nat.le_of_ble_eq_true rfl) (Nat.le_of_ble_eq_true rfl) ⟨hp_vi (by rfl), rfl⟩
      · exact absurd (by rw [o1, hi]; exact Int32.le_refl _) c9
    | succ n ih =>
      intro i H locs ls hi w hl
      refine ro_iload_n X hl dX3_who_4 rfl ?_
      refine ro_aload_n X hl dX3_who_5 rfl (by first | exact Or.inr ⟨_, rfl⟩ | exact Or.inl rfl | exact va_rf_or _) ?_
      refine gf_X3_83 X w dX3_who_6 tw.o rfl ?_
      refine lv_icmp_ge (tgt := 33) X.1 X.2.1 dX3_who_9 (by decide) (fun c9 => ?_) (fun c9 => ?_)
      · exact absurd c9 (by rw [o1]; exact nI_ge (by omega) (by omega))
      · refine ro_aload_n X hl dX3_who_12 rfl (by first | exact Or.inr ⟨_, rfl⟩ | exact Or.inl rfl | exact va_rf_or _) ?_
        refine ro_iload_n X hl dX3_who_13 rfl ?_
        refine ro_kJ (cs_X3_123 X w tw.o (mt_X3_placeOf tw.1 o1 o2 (q := i) (by omega)) rfl rfl hl ⟨⟨Nat.le_of_ble_eq_true rfl, Nat.le_of_ble_eq_true rfl⟩, Nat.le_of_ble_eq_true rfl, Nat.le_of_ble_eq_true rfl⟩ (Nat.le_of_ble_eq_true rfl) dX3_who_14) w (fun H locs w => ?_)
        refine ro_iload_n X hl dX3_who_17 rfl ?_
        refine lv_icmp_ne (tgt := 25) X.1 X.2.1 dX3_who_18 (by decide) (fun c18 => ?_) (fun c18 => ?_)
        · refine ro_iload_n X hl dX3_who_25 rfl ?_
          refine ro_istore_n X hl dX3_who_26 (by decide) (fun ls hl => ?_)
          refine ro_iinc X hl dX3_who_27 (by decide) rfl (fun ls hl => ?_)
          rw [hp_ni, ← show tw_w1 T np v (i + 1) = tw_w1 T np v i from if_neg c18] at hl
          refine lv_goto (tgt := 4) X.1 X.2.1 dX3_who_30 (by decide) ?_
          exact ih (i + 1) _ _ _ (by omega) w hl
        · refine ro_iload_n X hl dX3_who_21 rfl ?_
          refine lv_goto (tgt := 26) X.1 X.2.1 dX3_who_22 (by decide) ?_
          refine ro_istore_n X hl dX3_who_26 (by decide) (fun ls hl => ?_)
          refine ro_iinc X hl dX3_who_27 (by decide) rfl (fun ls hl => ?_)
          rw [hp_ni, ← show tw_w1 T np v (i + 1) = nI i from if_pos c18] at hl
          refine lv_goto (tgt := 4) X.1 X.2.1 dX3_who_30 (by decide) ?_
          exact ih (i + 1) _ _ _ (by omega) w hl
  exact key np 0 _ _ ls (by omega) w hl
