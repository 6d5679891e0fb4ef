/-! THE REFERENCE: labels, the end of a season (printed by tools/m19.py) -/
set_option maxRecDepth 100000
theorem tx_put_o (T : tw_T) (v : Int32) : (∀ k, k ≠ 28 → (tx_put T v).1 k = T.1 k) ∧ (∀ k, k ≠ 27 → (tx_put T v).2 k = T.2 k) ∧ (tx_put T v).1 28 = T.1 28 + 1 := ⟨fun _ h => if_neg h, fun _ h => if_neg h, rfl⟩
theorem tx_num_o (T : tw_T) (v : Int32) : (∀ k, k ≠ 28 → (tx_num T v).1 k = T.1 k) ∧ (∀ k, k ≠ 27 → (tx_num T v).2 k = T.2 k) := by
  unfold tx_num
  split
  · exact ⟨(tx_put_o _ _).1, (tx_put_o _ _).2.1⟩
  · exact ⟨fun k h => ((tx_put_o _ _).1 k h).trans ((tx_put_o _ _).1 k h), fun k h => ((tx_put_o _ _).2.1 k h).trans ((tx_put_o _ _).2.1 k h)⟩
theorem tx_put_w {T : tw_T} {v : Int32} {w : Nat} (h : T.1 28 = nI w) : (tx_put T v).1 28 = nI (w + 1) := by rw [(tx_put_o T v).2.2, h, nI_1]
theorem tx_num_w {T : tw_T} {v : Int32} {w : Nat} (h : T.1 28 = nI w) : ∃ u, (tx_num T v).1 28 = nI u ∧ w < u ∧ u ≤ w + 2 := by
  unfold tx_num
  split
  · exact ⟨w + 1, tx_put_w h, by omega, by omega⟩
  · exact ⟨w + 2, tx_put_w (tx_put_w h), by omega, by omega⟩
theorem px_w {v : Int32} {w : Nat} (h : v = nI w) (hw : w < 16) : pxn v 16 := by subst h; exact pxn_nI hw (by decide)
/-- nothing but scratch has changed since T0, nothing is thrown, and no more than n marks are written -/
def txb (T0 T1 : tw_T) (n : Nat) : Prop := tw_sm T0 T1 ∧ T1.1 29 = 0 ∧ ∃ u, T1.1 28 = nI u ∧ u ≤ n
theorem txb.put {G : hp_G} {x : Nat} {ad : Nat → Nat} {h h1 : hp_H} {T0 S : tw_T} {n : Nat} {v : Int32} (b : txb T0 S n) (_ : TWf G x ad h (tx_put S v) h1) : txb T0 (tx_put S v) (n + 1) := by
  obtain ⟨b1, b2, u, b3, b4⟩ := b
  exact ⟨(b1.a 27 _ _ (Or.inr (Or.inr rfl))).s 28 _ (Or.inl rfl), b2, u + 1, tx_put_w b3, by omega⟩
theorem txb.num {G : hp_G} {x : Nat} {ad : Nat → Nat} {h h1 : hp_H} {T0 S : tw_T} {n : Nat} {v : Int32} (b : txb T0 S n) (_ : TWf G x ad h (tx_num S v) h1) : txb T0 (tx_num S v) (n + 2) := by
  obtain ⟨b1, b2, u, b3, b4⟩ := b
  obtain ⟨u2, c1, -, c3⟩ := tx_num_w (v := v) b3
  obtain ⟨d1, d2⟩ := tx_num_o S v
  exact ⟨b1.tr ⟨fun k h _ => d1 k h, fun k _ _ h => d2 k h⟩, (d1 29 (by decide)).trans b2, u2, c1, by omega⟩
theorem txb.n {T0 S : tw_T} {n : Nat} (b : txb T0 S n) (hn : n + 2 ≤ 16) : ∃ u, S.1 28 = nI u ∧ u + 2 ≤ 16 := by
  obtain ⟨b1, b2, u, b3, b4⟩ := b
  exact ⟨u, b3, by omega⟩
theorem txb.p {T0 S : tw_T} {n : Nat} (b : txb T0 S n) (hn : n < 16) : pxn (S.1 28) 16 := by
  obtain ⟨b1, b2, u, b3, b4⟩ := b
  exact px_w b3 (by omega)
theorem nar_c (v : Int32) : narrow FieldType.char (.int (v.toUInt32 % 65536).toInt32) = .int (v.toUInt32 % 65536).toInt32 := by
  show Value.int _ = _
  simp
  rw [show v.toUInt32 % 65536 % 65536 = v.toUInt32 % 65536 from UInt32.toNat_inj.mp (by rw [UInt32.toNat_mod, UInt32.toNat_mod, Nat.mod_mod])]
theorem px_lt {n v : Int32} {u : Nat} (hv : v = nI u) (hu : u < 17) (h0 : ¬ n < 0) (h : ¬ v ≤ n) : pxn n 16 := by
  obtain ⟨j, hj, rfl⟩ := nI_of h0
  subst hv
  exact pxn_nI (by have := (nI_ltI hj (by omega)).mp (Int32.not_le.mp h); omega) (by decide)
theorem mt_X3_putsNumber {l : Launch} {G : hp_G} {B : Nat} {h : hp_H} {x : Nat} {ad : Nat → Nat} {T : tw_T} {v : Int32} (t0 : TW G x ad T h) (hu : ∃ u, T.1 28 = nI u ∧ u + 2 ≤ 16) : hp_M l G B yX3_putsNumber cX3_putsNumber 2 none 2 0 0 [.ref x, .int v] h (hp_V (TWf G x ad h (tx_num T v))) := by
  refine hp_M.of (by decide) 0 (List.forall_mem_cons.mpr ⟨rfl, (List.forall_mem_cons.mpr ⟨rfl, (fun _ h => absurd h List.not_mem_nil)⟩)⟩) (Nat.le_of_ble_eq_true rfl) ?_
  intro p e s m below meth cd Q ls X hr hlk hnm w hl hQ
  have hl : hp_L ls 2 [some (.ref x), some (.int v)] := hl
  have tw := t0.f
  obtain ⟨u, hu, hu2⟩ := hu
  have J : ∀ (T1 : tw_T) (h1 : hp_H) (H : Heap) (locs : List Loc) (ls : Array Slot), TWf G x ad h T1 h1 → (if v ≤ 9 then T else tx_put T (48 + v / 10)) = T1 → pxn (T1.1 28) 16 → hp_Ws G B h1 s H locs → hp_L ls 2 [some (.ref x), some (.int v)] → W p l e (hp_rm 2 0 0) s m ([.ref x, .int v] : List Value).toArray below meth cd H locs (0 + 0) (0 + 0) Q (F0 m 17 ls []) := by
    intro T1 h1 H locs ls tw e p w hl
    refine ro_aload_n X hl dX3_putsNumber_17 rfl (by first | exact Or.inr ⟨_, rfl⟩ | exact Or.inl rfl | exact va_rf_or _) ?_
    refine lv_bipush (v := 48) X.1 X.2.1 dX3_putsNumber_18 (by decide) ?_
    refine ro_iload_n X hl dX3_putsNumber_20 rfl ?_
    refine lv_bipush (v := 10) X.1 X.2.1 dX3_putsNumber_21 (by decide) ?_
    refine lv_irem X.1 X.2.1 dX3_putsNumber_23 (by decide) ?_
    refine lv_iadd X.1 X.2.1 dX3_putsNumber_24 ?_
    refine ro_kV (cs_X3_156 X w tw.o (mt_X3_puts tw.1 p) rfl rfl hl ⟨⟨Nat.le_of_ble_eq_true rfl, Nat.le_of_ble_eq_true rfl⟩, Nat.le_of_ble_eq_true rfl, Nat.le_of_ble_eq_true rfl⟩ (Nat.le_of_ble_eq_true rfl) dX3_putsNumber_25) w (fun h H locs hp25 w => ?_)
    have tw := tw.tr hp25
    exact ro_ret0 X w hQ hlk dX3_putsNumber_28 hr (Nat.le_of_ble_eq_true rfl) (Nat.le_of_ble_eq_true rfl) ⟨rfl, tw.cast (by unfold tx_num; first | (rw [e]; done) | (rw [e]; rfl))⟩
  refine ro_iload_n X hl dX3_putsNumber_0 rfl ?_
  refine lv_bipush (v := 9) X.1 X.2.1 dX3_putsNumber_1 (by decide) ?_
  refine lv_icmp_le (tgt := 17) X.1 X.2.1 dX3_putsNumber_3 (by decide) (fun c3 => ?_) (fun c3 => ?_)
  · exact J _ _ _ _ ls tw (if_pos c3) (px_w hu (by omega)) w hl
  · refine ro_aload_n X hl dX3_putsNumber_6 rfl (by first | exact Or.inr ⟨_, rfl⟩ | exact Or.inl rfl | exact va_rf_or _) ?_
    refine lv_bipush (v := 48) X.1 X.2.1 dX3_putsNumber_7 (by decide) ?_
    refine ro_iload_n X hl dX3_putsNumber_9 rfl ?_
    refine lv_bipush (v := 10) X.1 X.2.1 dX3_putsNumber_10 (by decide) ?_
    refine lv_idiv X.1 X.2.1 dX3_putsNumber_12 (by decide) ?_
    refine lv_iadd X.1 X.2.1 dX3_putsNumber_13 ?_
    refine ro_kV (cs_X3_156 X w tw.o (mt_X3_puts tw.1 (px_w hu (by omega))) rfl rfl hl ⟨⟨Nat.le_of_ble_eq_true rfl, Nat.le_of_ble_eq_true rfl⟩, Nat.le_of_ble_eq_true rfl, Nat.le_of_ble_eq_true rfl⟩ (Nat.le_of_ble_eq_true rfl) dX3_putsNumber_14) w (fun h H locs hp14 w => ?_)
    have tw := tw.tr hp14
    exact J _ _ _ _ ls tw (if_neg c3) (px_w (tx_put_w hu) (by omega)) w hl
theorem mt_X3_label {l : Launch} {G : hp_G} {B : Nat} {h : hp_H} {x : Nat} {ad : Nat → Nat} {T : tw_T} {np nm se ns : Nat} {g n : Int32} (t0 : TW G x ad T h) (ok : tw_ok T np nm se ns) : hp_M l G B yX3_label cX3_label 3 (some .char) 4 0 0 [.ref x, .int g, .int n] h (hp_E (tw_api G x ad h T (tk_label T g n) (tv_label (t9 T) g n) (t9 T))) := by
  refine hp_M.of (by decide) 0 (List.forall_mem_cons.mpr ⟨rfl, (List.forall_mem_cons.mpr ⟨rfl, (List.forall_mem_cons.mpr ⟨rfl, (fun _ h => absurd h List.not_mem_nil)⟩)⟩)⟩) (Nat.le_of_ble_eq_true rfl) ?_
  intro p e s m below meth cd Q ls X hr hlk hnm w hl hQ
  have hl : hp_L ls 3 [some (.ref x), some (.int g), some (.int n)] := hl
  have tw := t0.f
  have ok0 := ok
  obtain ⟨o1, o2, o3, o4, o5, o6, o7, o8, om, ok2, ol⟩ := ok
  have sm0 := tw_sm.rf T
  have J3 : tk_label T g n = 0 → ∀ (T1 : tw_T) (h1 : hp_H) (H : Heap) (locs : List Loc) (ls : Array Slot), TWf G x ad h T1 h1 → tx_hold (t9 T) (tx_all (t9 T) g) g = T1 → txb (t9 T) T1 11 → hp_Ws G B h1 s H locs → hp_L ls 3 [some (.ref x), some (.int g), some (.int n)] → W p l e (hp_rm 4 0 0) s m ([.ref x, .int g, .int n] : List Value).toArray below meth cd H locs (0 + 0) (0 + 0) Q (F0 m 94 ls []) := by
    intro hK T1 h1 H locs ls tw eT b w hl
    obtain ⟨sm, e9, u, hu, hu2⟩ := b
    have z := tk3_z hK
    refine ro_iload_n X hl dX3_label_94 rfl ?_
    refine ro_aload_n X hl dX3_label_95 rfl (by first | exact Or.inr ⟨_, rfl⟩ | exact Or.inl rfl | exact va_rf_or _) ?_
    refine gf_X3_153 X w dX3_label_96 tw.o rfl ?_
    refine lv_icmp_ge (tgt := 112) X.1 X.2.1 dX3_label_99 (by decide) (fun c99 => ?_) (fun c99 => ?_)
    · refine lv_iconst (v := 0) X.1 X.2.1 dX3_label_112 (by decide) ?_
      exact ro_retI X w hQ hlk dX3_label_113 hr (by first | rfl | exact nar_c _) (Nat.le_of_ble_eq_true rfl) (Nat.le_of_ble_eq_true rfl) (tw_yes tw hK e9 (by unfold tv_label; rw [eT]; first | exact (if_pos c99).symm | exact (if_neg c99).symm) sm)
    · have pn := px_lt hu (by omega) (fun q => z.1 (Or.inr q)) c99
      refine ro_aload_n X hl dX3_label_102 rfl (by first | exact Or.inr ⟨_, rfl⟩ | exact Or.inl rfl | exact va_rf_or _) ?_
      refine gf_X3_76 X w dX3_label_103 tw.o rfl ?_
      refine ro_iload_n X hl dX3_label_106 rfl ?_
      refine ro_ialdE X w dX3_label_107 (tw.ar 27 (n := 16) rfl rfl) pn.1 pn.2 (by decide) ?_
      refine lv_i2c X.1 X.2.1 dX3_label_108 rfl ?_
      refine lv_goto (tgt := 113) X.1 X.2.1 dX3_label_109 (by decide) ?_
      exact ro_retI X w hQ hlk dX3_label_113 hr (by first | rfl | exact nar_c _) (Nat.le_of_ble_eq_true rfl) (Nat.le_of_ble_eq_true rfl) (tw_yes tw hK e9 (by unfold tv_label; rw [eT]; first | exact (if_pos c99).symm | exact (if_neg c99).symm) sm)
  have J : ∀ (k : Int32) (H : Heap) (locs : List Loc) (ls : Array Slot), hp_Ws G B h s H locs → hp_L ls 3 [some (.ref x), some (.int g), some (.int n)] → k = tk_label T g n → W p l e (hp_rm 4 0 0) s m ([.ref x, .int g, .int n] : List Value).toArray below meth cd H locs 0 0 Q (F0 m 18 ls [.int k, .ref x]) := by
    intro k H locs ls w hl hk
    refine ro_kI (cs_X3_93 X w tw.o (mt_X3_fails tw.1) rfl rfl hl ⟨⟨Nat.le_of_ble_eq_true rfl, Nat.le_of_ble_eq_true rfl⟩, Nat.le_of_ble_eq_true rfl, Nat.le_of_ble_eq_true rfl⟩ (Nat.le_of_ble_eq_true rfl) dX3_label_18) w (fun h H locs hp18 w => ?_)
    have tw := tw.tr hp18
    refine lv_if_eq (tgt := 26) X.1 X.2.1 dX3_label_21 (by decide) (fun c21 => ?_) (fun c21 => ?_)
    · have hk0 := tk3_0 hk c21
      have hK := hk.symm.trans hk0
      subst hk0
      have z := tk3_z hK
      have pg := isb_px o7 (by omega) (fun q => z.1 (Or.inl q))
      have pg2 := pg.2
      refine ro_aload_n X hl dX3_label_26 rfl (by first | exact Or.inr ⟨_, rfl⟩ | exact Or.inl rfl | exact va_rf_or _) ?_
      refine lv_iconst (v := 0) X.1 X.2.1 dX3_label_27 (by decide) ?_
      refine tp_X3_153 X w tw dX3_label_28 (fun h H locs w tw => ?_)
      have b : txb (t9 T) _ 0 := ⟨(tw_sm.rf (t9 T)).s 28 0 (Or.inl rfl), rfl, 0, rfl, Nat.le_refl _⟩
      refine ro_aload_n X hl dX3_label_31 rfl (by first | exact Or.inr ⟨_, rfl⟩ | exact Or.inl rfl | exact va_rf_or _) ?_
      refine ro_iload_n X hl dX3_label_32 rfl ?_
      refine ro_kV (cs_X3_159 X w tw.o (mt_X3_putsNumber tw.1 (b.n (by decide))) rfl rfl hl ⟨⟨Nat.le_of_ble_eq_true rfl, Nat.le_of_ble_eq_true rfl⟩, Nat.le_of_ble_eq_true rfl, Nat.le_of_ble_eq_true rfl⟩ (Nat.le_of_ble_eq_true rfl) dX3_label_33) w (fun h H locs hp33 w => ?_)
      have tw := tw.tr hp33
      have b := b.num tw
      refine ro_aload_n X hl dX3_label_36 rfl (by first | exact Or.inr ⟨_, rfl⟩ | exact Or.inl rfl | exact va_rf_or _) ?_
      refine lv_bipush (v := 58) X.1 X.2.1 dX3_label_37 (by decide) ?_
      refine ro_kV (cs_X3_156 X w tw.o (mt_X3_puts tw.1 (b.p (by decide))) rfl rfl hl ⟨⟨Nat.le_of_ble_eq_true rfl, Nat.le_of_ble_eq_true rfl⟩, Nat.le_of_ble_eq_true rfl, Nat.le_of_ble_eq_true rfl⟩ (Nat.le_of_ble_eq_true rfl) dX3_label_39) w (fun h H locs hp39 w => ?_)
      have tw := tw.tr hp39
      have b := b.put tw
      refine ro_aload_n X hl dX3_label_42 rfl (by first | exact Or.inr ⟨_, rfl⟩ | exact Or.inl rfl | exact va_rf_or _) ?_
      refine ro_aload_n X hl dX3_label_43 rfl (by first | exact Or.inr ⟨_, rfl⟩ | exact Or.inl rfl | exact va_rf_or _) ?_
      refine gf_X3_37 X w dX3_label_44 tw.o rfl ?_
      refine ro_iload_n X hl dX3_label_47 rfl ?_
      refine ro_ialdE X w dX3_label_48 (tw.ar 14 (n := 36) rfl rfl) pg.1 (by omega) (by decide) ?_
      rw [b.1.2 14 (by decide) (by decide) (by decide)]
      refine ro_kV (cs_X3_159 X w tw.o (mt_X3_putsNumber tw.1 (b.n (by decide))) rfl rfl hl ⟨⟨Nat.le_of_ble_eq_true rfl, Nat.le_of_ble_eq_true rfl⟩, Nat.le_of_ble_eq_true rfl, Nat.le_of_ble_eq_true rfl⟩ (Nat.le_of_ble_eq_true rfl) dX3_label_49) w (fun h H locs hp49 w => ?_)
      have tw := tw.tr hp49
      have b := b.num tw
      refine ro_aload_n X hl dX3_label_52 rfl (by first | exact Or.inr ⟨_, rfl⟩ | exact Or.inl rfl | exact va_rf_or _) ?_
      refine lv_bipush (v := 47) X.1 X.2.1 dX3_label_53 (by decide) ?_
      refine ro_kV (cs_X3_156 X w tw.o (mt_X3_puts tw.1 (b.p (by decide))) rfl rfl hl ⟨⟨Nat.le_of_ble_eq_true rfl, Nat.le_of_ble_eq_true rfl⟩, Nat.le_of_ble_eq_true rfl, Nat.le_of_ble_eq_true rfl⟩ (Nat.le_of_ble_eq_true rfl) dX3_label_55) w (fun h H locs hp55 w => ?_)
      have tw := tw.tr hp55
      have b := b.put tw
      refine ro_aload_n X hl dX3_label_58 rfl (by first | exact Or.inr ⟨_, rfl⟩ | exact Or.inl rfl | exact va_rf_or _) ?_
      refine ro_aload_n X hl dX3_label_59 rfl (by first | exact Or.inr ⟨_, rfl⟩ | exact Or.inl rfl | exact va_rf_or _) ?_
      refine gf_X3_40 X w dX3_label_60 tw.o rfl ?_
      refine ro_iload_n X hl dX3_label_63 rfl ?_
      refine ro_ialdE X w dX3_label_64 (tw.ar 15 (n := 36) rfl rfl) pg.1 (by omega) (by decide) ?_
      rw [b.1.2 15 (by decide) (by decide) (by decide)]
      refine ro_kV (cs_X3_159 X w tw.o (mt_X3_putsNumber tw.1 (b.n (by decide))) rfl rfl hl ⟨⟨Nat.le_of_ble_eq_true rfl, Nat.le_of_ble_eq_true rfl⟩, Nat.le_of_ble_eq_true rfl, Nat.le_of_ble_eq_true rfl⟩ (Nat.le_of_ble_eq_true rfl) dX3_label_65) w (fun h H locs hp65 w => ?_)
      have tw := tw.tr hp65
      have b := b.num tw
      refine ro_aload_n X hl dX3_label_68 rfl (by first | exact Or.inr ⟨_, rfl⟩ | exact Or.inl rfl | exact va_rf_or _) ?_
      refine gf_X3_46 X w dX3_label_69 tw.o rfl ?_
      refine ro_iload_n X hl dX3_label_72 rfl ?_
      refine ro_ialdE X w dX3_label_73 (tw.ar 17 (n := 36) rfl rfl) pg.1 (by omega) (by decide) ?_
      rw [b.1.2 17 (by decide) (by decide) (by decide)]
      refine lv_iconst (v := (-1)) X.1 X.2.1 dX3_label_74 (by decide) ?_
      refine lv_icmp_eq (tgt := 94) X.1 X.2.1 dX3_label_75 (by decide) (fun c75 => ?_) (fun c75 => ?_)
      · exact J3 hK _ _ _ _ ls tw (if_pos c75) ⟨b.1, b.2.1, b.2.2.imp (fun _ q => ⟨q.1, Nat.le_trans q.2 (by decide)⟩)⟩ w hl
      · refine ro_aload_n X hl dX3_label_78 rfl (by first | exact Or.inr ⟨_, rfl⟩ | exact Or.inl rfl | exact va_rf_or _) ?_
        refine lv_bipush (v := 64) X.1 X.2.1 dX3_label_79 (by decide) ?_
        refine ro_kV (cs_X3_156 X w tw.o (mt_X3_puts tw.1 (b.p (by decide))) rfl rfl hl ⟨⟨Nat.le_of_ble_eq_true rfl, Nat.le_of_ble_eq_true rfl⟩, Nat.le_of_ble_eq_true rfl, Nat.le_of_ble_eq_true rfl⟩ (Nat.le_of_ble_eq_true rfl) dX3_label_81) w (fun h H locs hp81 w => ?_)
        have tw := tw.tr hp81
        have b := b.put tw
        refine ro_aload_n X hl dX3_label_84 rfl (by first | exact Or.inr ⟨_, rfl⟩ | exact Or.inl rfl | exact va_rf_or _) ?_
        refine ro_aload_n X hl dX3_label_85 rfl (by first | exact Or.inr ⟨_, rfl⟩ | exact Or.inl rfl | exact va_rf_or _) ?_
        refine gf_X3_46 X w dX3_label_86 tw.o rfl ?_
        refine ro_iload_n X hl dX3_label_89 rfl ?_
        refine ro_ialdE X w dX3_label_90 (tw.ar 17 (n := 36) rfl rfl) pg.1 (by omega) (by decide) ?_
        rw [b.1.2 17 (by decide) (by decide) (by decide)]
        refine ro_kV (cs_X3_159 X w tw.o (mt_X3_putsNumber tw.1 (b.n (by decide))) rfl rfl hl ⟨⟨Nat.le_of_ble_eq_true rfl, Nat.le_of_ble_eq_true rfl⟩, Nat.le_of_ble_eq_true rfl, Nat.le_of_ble_eq_true rfl⟩ (Nat.le_of_ble_eq_true rfl) dX3_label_91) w (fun h H locs hp91 w => ?_)
        have tw := tw.tr hp91
        have b := b.num tw
        exact J3 hK _ _ _ _ ls tw (if_neg c75) b w hl
    · have hKn := tk3_n hk c21
      refine lv_iconst (v := 0) X.1 X.2.1 dX3_label_24 (by decide) ?_
      exact ro_retI X w hQ hlk dX3_label_25 hr (by first | rfl | exact nar_c _) (Nat.le_of_ble_eq_true rfl) (Nat.le_of_ble_eq_true rfl) (tw_no tw hk hKn)
  refine ro_aload_n X hl dX3_label_0 rfl (by first | exact Or.inr ⟨_, rfl⟩ | exact Or.inl rfl | exact va_rf_or _) ?_
  refine ro_aload_n X hl dX3_label_1 rfl (by first | exact Or.inr ⟨_, rfl⟩ | exact Or.inl rfl | exact va_rf_or _) ?_
  refine ro_iload_n X hl dX3_label_2 rfl ?_
  refine ro_kJ (cs_X3_136 X w tw.o (mt_X3_isSkin tw.1) rfl rfl hl ⟨⟨Nat.le_of_ble_eq_true rfl, Nat.le_of_ble_eq_true rfl⟩, Nat.le_of_ble_eq_true rfl, Nat.le_of_ble_eq_true rfl⟩ (Nat.le_of_ble_eq_true rfl) dX3_label_3) w (fun H locs w => ?_)
  refine lv_if_eq (tgt := 17) X.1 X.2.1 dX3_label_6 (by decide) (fun c6 => ?_) (fun c6 => ?_)
  · refine lv_iconst (v := 1) X.1 X.2.1 dX3_label_17 (by decide) ?_
    exact J _ _ _ ls w (hl.mask [true, true, true]) (tk3_1 (Or.inl c6))
  · refine ro_iload_n X hl dX3_label_9 rfl ?_
    refine lv_if_lt (tgt := 17) X.1 X.2.1 dX3_label_10 (by decide) (fun c10 => ?_) (fun c10 => ?_)
    · refine lv_iconst (v := 1) X.1 X.2.1 dX3_label_17 (by decide) ?_
      exact J _ _ _ ls w (hl.mask [true, true, true]) (tk3_1 (Or.inr c10))
    · refine lv_iconst (v := 0) X.1 X.2.1 dX3_label_13 (by decide) ?_
      refine lv_goto (tgt := 18) X.1 X.2.1 dX3_label_14 (by decide) ?_
      exact J _ _ _ ls w (hl.mask [true, true, true]) (tk3_4 (fun q => q.elim c6 c10) (fun q => q) (fun q => q))
theorem te_a_1 (T : tw_T) (k : Nat) (pl its : Int32) : (te_a T k pl its).1 = va_up T.1 13 (T.1 13 + 1) := rfl
theorem te_1_1 (T : tw_T) (np : Nat) (pl : Int32) {c : Nat} (h : T.1 13 = nI c) : ∃ d, c ≤ d ∧ d ≤ c + 1 ∧ (te_1 T np pl).1 13 = nI d ∧ ∀ k, k ≠ 13 → (te_1 T np pl).1 k = T.1 k := by
  unfold te_1
  split
  · exact ⟨c, Nat.le_refl _, by omega, h, fun _ _ => rfl⟩
  · exact ⟨c + 1, by omega, Nat.le_refl _, by rw [te_a_1]; show T.1 13 + 1 = _; rw [h, nI_1], fun k hk => if_neg hk⟩
theorem te_l_1 (T : tw_T) (np : Nat) {c : Nat} (h : T.1 13 = nI c) : ∀ j, ∃ d, c ≤ d ∧ d ≤ c + j ∧ (te_l T np j).1 13 = nI d ∧ ∀ k, k ≠ 13 → (te_l T np j).1 k = T.1 k
  | 0 => ⟨c, Nat.le_refl _, Nat.le_refl _, h, fun _ _ => rfl⟩
  | j + 1 => by
    obtain ⟨d, d1, d2, d3, d4⟩ := te_l_1 T np h j
    obtain ⟨e, e1, e2, e3, e4⟩ := te_1_1 (te_l T np j) np (nI (j + 1)) d3
    exact ⟨e, by omega, by omega, e3, fun k hk => (e4 k hk).trans (d4 k hk)⟩
theorem TWf.base {G : hp_G} {x : Nat} {ad : Nat → Nat} {h0 h1 h : hp_H} {T : tw_T} (e : h0 = h1) (t : TWf G x ad h0 T h) : TWf G x ad h1 T h := e ▸ t
theorem mt_X3_end {l : Launch} {G : hp_G} {B : Nat} {h : hp_H} {x : Nat} {ad : Nat → Nat} {T : tw_T} {np nm se ns : Nat} (t0 : TW G x ad T h) (ok : tw_ok T np nm se ns) : hp_M l G B yX3_end cX3_end 4 (some .int) 4 0 0 [.ref x] h (hp_E (tw_api G x ad h T (tk_end T) (tv_end (t9 T) np nm) (tu_end (t9 T) np nm))) := by
  refine hp_M.of (by decide) 3 (List.forall_mem_cons.mpr ⟨rfl, (fun _ h => absurd h List.not_mem_nil)⟩) (Nat.le_of_ble_eq_true rfl) ?_
  intro p e s m below meth cd Q ls X hr hlk hnm w hl hQ
  have hl : hp_L ls 4 [some (.ref x), none, none, none] := hl
  have tw := t0.f
  have ok0 := ok
  obtain ⟨o1, o2, o3, o4, o5, o6, o7, o8, om, ok2, ol⟩ := ok
  have sm0 := tw_sm.rf T
  obtain ⟨h0, eh0⟩ : ∃ z, z = h := ⟨_, rfl⟩
  have J : ∀ (k : Int32) (H : Heap) (locs : List Loc) (ls : Array Slot), hp_Ws G B h s H locs → hp_L ls 4 [some (.ref x), none, none, none] → k = tk_end T → W p l e (hp_rm 4 0 0) s m ([.ref x] : List Value).toArray below meth cd H locs 0 0 Q (F0 m 15 ls [.int k, .ref x]) := by
    intro k H locs ls w hl hk
    refine ro_kI (cs_X3_93 X w tw.o (mt_X3_fails tw.1) rfl rfl hl ⟨⟨Nat.le_of_ble_eq_true rfl, Nat.le_of_ble_eq_true rfl⟩, Nat.le_of_ble_eq_true rfl, Nat.le_of_ble_eq_true rfl⟩ (Nat.le_of_ble_eq_true rfl) dX3_end_15) w (fun h H locs hp15 w => ?_)
    have tw := tw.tr hp15
    refine lv_if_eq (tgt := 23) X.1 X.2.1 dX3_end_18 (by decide) (fun c18 => ?_) (fun c18 => ?_)
    · have hk0 := tk3_0 hk c18
      have hK := hk.symm.trans hk0
      subst hk0
      have z := (tk3_z hK).1
      refine ro_aload_n X hl dX3_end_23 rfl (by first | exact Or.inr ⟨_, rfl⟩ | exact Or.inl rfl | exact va_rf_or _) ?_
      refine ro_aload_n X hl dX3_end_24 rfl (by first | exact Or.inr ⟨_, rfl⟩ | exact Or.inl rfl | exact va_rf_or _) ?_
      refine gf_X3_113 X w dX3_end_25 tw.o rfl ?_
      refine ro_kV (cs_X3_126 X w tw.o (mt_X3_counts tw.1 (show tw_ok (tw_s T 29 0) np nm se ns from ok0)) rfl rfl hl ⟨⟨Nat.le_of_ble_eq_true rfl, Nat.le_of_ble_eq_true rfl⟩, Nat.le_of_ble_eq_true rfl, Nat.le_of_ble_eq_true rfl⟩ (Nat.le_of_ble_eq_true rfl) dX3_end_28) w (fun h H locs hp28 w => ?_)
      have tw := tw.tr hp28
      refine lv_iconst (v := 0) X.1 X.2.1 dX3_end_31 (by decide) ?_
      refine ro_istore_n X hl dX3_end_32 (by decide) (fun ls hl => ?_)
      refine lv_iconst (v := 1) X.1 X.2.1 dX3_end_33 (by decide) ?_
      refine ro_istore_n X hl dX3_end_34 (by decide) (fun ls hl => ?_)
      have hse : se ≤ 10 := by
        rcases Nat.lt_or_ge se 11 with q | q
        · omega
        · exact absurd (show T.1 12 = 11 by rw [o5, show se = 11 by omega]; rfl) z
      replace tw := tw.base eh0.symm
      have tw := tw.cast (show tw_cn (t9 T) ((t9 T).1 12) np nm = _ from rfl)
      have m1 : tw_sm (t9 T) (tw_cn (t9 T) ((t9 T).1 12) np nm) := tw_cn_sm _ _ _ _
      have f1 : (tw_cn (t9 T) ((t9 T).1 12) np nm).1 = (t9 T).1 := tw_cn_1 _ _ _ _
      have key : ∀ (n i : Nat) (h1 : hp_H) (H : Heap) (locs : List Loc) (ls : Array Slot), i + n = 3 → TWf G x ad h0 (te_l (tw_cn (t9 T) ((t9 T).1 12) np nm) np i) h1 → hp_Ws G B h1 s H locs → hp_L ls 4 [some (.ref x), some (.int (te_n (tw_cn (t9 T) ((t9 T).1 12) np nm) np i)), some (.int (nI (i + 1))), none] → W p l e (hp_rm 4 0 0) s m ([.ref x] : List Value).toArray below meth cd H locs (0 + 0 + 0) (0 + 0 + 0) Q (F0 m 35 ls []) := by
        intro n
        induction n with
        | zero =>
          intro i h1 H locs ls hi tw w hl
          have hi : i = 3 := by omega
          have eE : tu_end (t9 T) np nm = tw_s (te_l (tw_cn (t9 T) ((t9 T).1 12) np nm) np 3) 12 ((te_l (tw_cn (t9 T) ((t9 T).1 12) np nm) np 3).1 12 + 1) := rfl
          have eV : tv_end (t9 T) np nm = te_n (tw_cn (t9 T) ((t9 T).1 12) np nm) np 3 := rfl
          obtain ⟨d, d1, d2, d3, d4⟩ := te_l_1 (tw_cn (t9 T) ((t9 T).1 12) np nm) np (c := ns) (by rw [f1]; exact o7) i
          have d9 := d4 29 (by decide)
          rw [f1] at d9
          refine ro_iload_n X hl dX3_end_35 rfl ?_
          refine lv_iconst (v := 3) X.1 X.2.1 dX3_end_36 (by decide) ?_
          refine lv_icmp_gt (tgt := 143) X.1 X.2.1 dX3_end_37 (by decide) (fun c37 => ?_) (fun c37 => ?_)
          · subst hi
            refine ro_aload_n X hl dX3_end_143 rfl (by first | exact Or.inr ⟨_, rfl⟩ | exact Or.inl rfl | exact va_rf_or _) ?_
            refine lv_dup X.1 X.2.1 dX3_end_144 rfl ?_
            refine gf_X3_113 X w dX3_end_145 tw.o rfl ?_
            refine lv_iconst (v := 1) X.1 X.2.1 dX3_end_148 (by decide) ?_
            refine lv_iadd X.1 X.2.1 dX3_end_149 ?_
            refine tp_X3_113 X w tw dX3_end_150 (fun h H locs w tw => ?_)
            refine ro_iload_n X hl dX3_end_153 rfl ?_
            exact ro_retI X w hQ hlk dX3_end_154 hr rfl (Nat.le_of_ble_eq_true rfl) (Nat.le_of_ble_eq_true rfl) (tw_yes ((tw.cast eE).base eh0) hK d9 eV.symm (tw_sm.rf _))
          · exact absurd (by rw [hi]; decide) c37
        | succ n ih =>
          intro i h1 H locs ls hi tw w hl
          obtain ⟨d, d1, d2, d3, d4⟩ := te_l_1 (tw_cn (t9 T) ((t9 T).1 12) np nm) np (c := ns) (by rw [f1]; exact o7) i
          have q1 : (te_l (tw_cn (t9 T) ((t9 T).1 12) np nm) np i).1 1 = nI np := by rw [d4 1 (by decide), f1]; exact o1
          have eU : te_l (tw_cn (t9 T) ((t9 T).1 12) np nm) np (i + 1) = te_1 (te_l (tw_cn (t9 T) ((t9 T).1 12) np nm) np i) np (nI (i + 1)) := rfl
          have eN : te_n (tw_cn (t9 T) ((t9 T).1 12) np nm) np (i + 1) = if tw_who (te_l (tw_cn (t9 T) ((t9 T).1 12) np nm) np i) np (nI (i + 1)) = -1 then te_n (tw_cn (t9 T) ((t9 T).1 12) np nm) np i else te_n (tw_cn (t9 T) ((t9 T).1 12) np nm) np i + 1 := rfl
          have hd : nI d = nI (ix ((te_l (tw_cn (t9 T) ((t9 T).1 12) np nm) np i).1 13)) := by rw [d3, show ix (nI d) = d from nI_clamp (by omega)]
          have hd2 : ix ((te_l (tw_cn (t9 T) ((t9 T).1 12) np nm) np i).1 13) < 36 := by rw [d3, show ix (nI d) = d from nI_clamp (by omega)]; omega
          generalize te_n (tw_cn (t9 T) ((t9 T).1 12) np nm) np i = N0 at eN hl
          generalize te_l (tw_cn (t9 T) ((t9 T).1 12) np nm) np i = U at tw d3 d4 q1 eU eN hd hd2
          refine ro_iload_n X hl dX3_end_35 rfl ?_
          refine lv_iconst (v := 3) X.1 X.2.1 dX3_end_36 (by decide) ?_
          refine lv_icmp_gt (tgt := 143) X.1 X.2.1 dX3_end_37 (by decide) (fun c37 => ?_) (fun c37 => ?_)
          · exact absurd c37 (nI_nlt (a := 3) (b := i + 1) (by omega) (by decide))
          · refine ro_aload_n X hl dX3_end_40 rfl (by first | exact Or.inr ⟨_, rfl⟩ | exact Or.inl rfl | exact va_rf_or _) ?_
            refine ro_iload_n X hl dX3_end_41 rfl ?_
            refine ro_kJ (cs_X3_130 X w tw.o (mt_X3_who tw.1 q1 o2) rfl rfl hl ⟨⟨Nat.le_of_ble_eq_true rfl, Nat.le_of_ble_eq_true rfl⟩, Nat.le_of_ble_eq_true rfl, Nat.le_of_ble_eq_true rfl⟩ (Nat.le_of_ble_eq_true rfl) dX3_end_42) w (fun H locs w => ?_)
            refine ro_istore_n X hl dX3_end_45 (by decide) (fun ls hl => ?_)
            refine ro_iload_n X hl dX3_end_46 rfl ?_
            refine lv_iconst (v := (-1)) X.1 X.2.1 dX3_end_47 (by decide) ?_
            refine lv_icmp_eq (tgt := 137) X.1 X.2.1 dX3_end_48 (by decide) (fun c48 => ?_) (fun c48 => ?_)
            · refine ro_iinc X hl dX3_end_137 (by decide) rfl (fun ls hl => ?_)
              rw [hp_ni] at hl
              have tw := tw.cast (eU.trans (if_pos c48))
              rw [← eN.trans (if_pos c48)] at hl
              refine lv_goto (tgt := 35) X.1 X.2.1 dX3_end_140 (by decide) ?_
              exact ih (i + 1) _ _ _ _ (by omega) tw w (hl.mask [true, true, true, false])
            · refine ro_aload_n X hl dX3_end_51 rfl (by first | exact Or.inr ⟨_, rfl⟩ | exact Or.inl rfl | exact va_rf_or _) ?_
              refine gf_X3_37 X w dX3_end_52 tw.o rfl ?_
              refine ro_aload_n X hl dX3_end_55 rfl (by first | exact Or.inr ⟨_, rfl⟩ | exact Or.inl rfl | exact va_rf_or _) ?_
              refine gf_X3_133 X w dX3_end_56 tw.o rfl ?_
              refine ro_aload_n X hl dX3_end_59 rfl (by first | exact Or.inr ⟨_, rfl⟩ | exact Or.inl rfl | exact va_rf_or _) ?_
              refine gf_X3_113 X w dX3_end_60 tw.o rfl ?_
              refine tw_iast X w tw 14 (n := 36) rfl rfl dX3_end_63 (d3.trans hd) hd2 (by decide) (fun h H locs w tw => ?_)
              refine ro_aload_n X hl dX3_end_64 rfl (by first | exact Or.inr ⟨_, rfl⟩ | exact Or.inl rfl | exact va_rf_or _) ?_
              refine gf_X3_40 X w dX3_end_65 tw.o rfl ?_
              refine ro_aload_n X hl dX3_end_68 rfl (by first | exact Or.inr ⟨_, rfl⟩ | exact Or.inl rfl | exact va_rf_or _) ?_
              refine gf_X3_133 X w dX3_end_69 tw.o rfl ?_
              refine ro_iload_n X hl dX3_end_72 rfl ?_
              refine tw_iast X w tw 15 (n := 36) rfl rfl dX3_end_73 (d3.trans hd) hd2 (by decide) (fun h H locs w tw => ?_)
              refine ro_aload_n X hl dX3_end_74 rfl (by first | exact Or.inr ⟨_, rfl⟩ | exact Or.inl rfl | exact va_rf_or _) ?_
              refine gf_X3_43 X w dX3_end_75 tw.o rfl ?_
              refine ro_aload_n X hl dX3_end_78 rfl (by first | exact Or.inr ⟨_, rfl⟩ | exact Or.inl rfl | exact va_rf_or _) ?_
              refine gf_X3_133 X w dX3_end_79 tw.o rfl ?_
              refine ro_iload_n X hl dX3_end_82 rfl ?_
              refine tw_iast X w tw 16 (n := 36) rfl rfl dX3_end_83 (d3.trans hd) hd2 (by decide) (fun h H locs w tw => ?_)
              refine ro_aload_n X hl dX3_end_84 rfl (by first | exact Or.inr ⟨_, rfl⟩ | exact Or.inl rfl | exact va_rf_or _) ?_
              refine gf_X3_46 X w dX3_end_85 tw.o rfl ?_
              refine ro_aload_n X hl dX3_end_88 rfl (by first | exact Or.inr ⟨_, rfl⟩ | exact Or.inl rfl | exact va_rf_or _) ?_
              refine gf_X3_133 X w dX3_end_89 tw.o rfl ?_
              refine ro_iload_n X hl dX3_end_92 rfl ?_
              refine tw_iast X w tw 17 (n := 36) rfl rfl dX3_end_93 (d3.trans hd) hd2 (by decide) (fun h H locs w tw => ?_)
              refine ro_aload_n X hl dX3_end_94 rfl (by first | exact Or.inr ⟨_, rfl⟩ | exact Or.inl rfl | exact va_rf_or _) ?_
              refine gf_X3_49 X w dX3_end_95 tw.o rfl ?_
              refine ro_aload_n X hl dX3_end_98 rfl (by first | exact Or.inr ⟨_, rfl⟩ | exact Or.inl rfl | exact va_rf_or _) ?_
              refine gf_X3_133 X w dX3_end_99 tw.o rfl ?_
              refine lv_iconst (v := (-1)) X.1 X.2.1 dX3_end_102 (by decide) ?_
              refine tw_iast X w tw 18 (n := 36) rfl rfl dX3_end_103 (d3.trans hd) hd2 (by decide) (fun h H locs w tw => ?_)
              refine ro_aload_n X hl dX3_end_104 rfl (by first | exact Or.inr ⟨_, rfl⟩ | exact Or.inl rfl | exact va_rf_or _) ?_
              refine gf_X3_55 X w dX3_end_105 tw.o rfl ?_
              refine ro_aload_n X hl dX3_end_108 rfl (by first | exact Or.inr ⟨_, rfl⟩ | exact Or.inl rfl | exact va_rf_or _) ?_
              refine gf_X3_133 X w dX3_end_109 tw.o rfl ?_
              refine lv_iconst (v := (-1)) X.1 X.2.1 dX3_end_112 (by decide) ?_
              refine tw_iast X w tw 20 (n := 36) rfl rfl dX3_end_113 (d3.trans hd) hd2 (by decide) (fun h H locs w tw => ?_)
              refine ro_aload_n X hl dX3_end_114 rfl (by first | exact Or.inr ⟨_, rfl⟩ | exact Or.inl rfl | exact va_rf_or _) ?_
              refine gf_X3_58 X w dX3_end_115 tw.o rfl ?_
              refine ro_aload_n X hl dX3_end_118 rfl (by first | exact Or.inr ⟨_, rfl⟩ | exact Or.inl rfl | exact va_rf_or _) ?_
              refine gf_X3_133 X w dX3_end_119 tw.o rfl ?_
              refine lv_iconst (v := 0) X.1 X.2.1 dX3_end_122 (by decide) ?_
              refine tw_iast X w tw 21 (n := 36) rfl rfl dX3_end_123 (d3.trans hd) hd2 (by decide) (fun h H locs w tw => ?_)
              refine ro_aload_n X hl dX3_end_124 rfl (by first | exact Or.inr ⟨_, rfl⟩ | exact Or.inl rfl | exact va_rf_or _) ?_
              refine lv_dup X.1 X.2.1 dX3_end_125 rfl ?_
              refine gf_X3_133 X w dX3_end_126 tw.o rfl ?_
              refine lv_iconst (v := 1) X.1 X.2.1 dX3_end_129 (by decide) ?_
              refine lv_iadd X.1 X.2.1 dX3_end_130 ?_
              refine tp_X3_133 X w tw dX3_end_131 (fun h H locs w tw => ?_)
              refine ro_iinc X hl dX3_end_134 (by decide) rfl (fun ls hl => ?_)
              refine ro_iinc X hl dX3_end_137 (by decide) rfl (fun ls hl => ?_)
              rw [hp_ni] at hl
              have tw := tw.cast (eU.trans (if_neg c48))
              rw [show N0 + Int32.ofInt 1 = _ from (eN.trans (if_neg c48)).symm] at hl
              refine lv_goto (tgt := 35) X.1 X.2.1 dX3_end_140 (by decide) ?_
              exact ih (i + 1) _ _ _ _ (by omega) tw w (hl.mask [true, true, true, false])
      exact key 3 0 _ _ _ ls rfl tw w hl
    · have hKn := tk3_n hk c18
      refine lv_iconst (v := 0) X.1 X.2.1 dX3_end_21 (by decide) ?_
      exact ro_retI X w hQ hlk dX3_end_22 hr rfl (Nat.le_of_ble_eq_true rfl) (Nat.le_of_ble_eq_true rfl) (tw_no tw hk hKn)
  refine ro_aload_n X hl dX3_end_0 rfl (by first | exact Or.inr ⟨_, rfl⟩ | exact Or.inl rfl | exact va_rf_or _) ?_
  refine ro_aload_n X hl dX3_end_1 rfl (by first | exact Or.inr ⟨_, rfl⟩ | exact Or.inl rfl | exact va_rf_or _) ?_
  refine gf_X3_113 X w dX3_end_2 tw.o rfl ?_
  refine lv_bipush (v := 11) X.1 X.2.1 dX3_end_5 (by decide) ?_
  refine lv_icmp_ne (tgt := 14) X.1 X.2.1 dX3_end_7 (by decide) (fun c7 => ?_) (fun c7 => ?_)
  · refine lv_iconst (v := 0) X.1 X.2.1 dX3_end_14 (by decide) ?_
    exact J _ _ _ ls w (hl.mask [true, false, false, false]) (tk3_4 c7 (fun q => q) (fun q => q))
  · refine lv_iconst (v := 1) X.1 X.2.1 dX3_end_10 (by decide) ?_
    refine lv_goto (tgt := 15) X.1 X.2.1 dX3_end_11 (by decide) ?_
    exact J _ _ _ ls w (hl.mask [true, false, false, false]) (tk3_1 c7)
