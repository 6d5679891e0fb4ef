/-! THE REFERENCE: selling, lending, seasons, proofs (printed by tools/m17.py) -/
set_option maxRecDepth 100000
theorem tw_add (T : tw_T) (k j : Nat) (v : Int32) : tw_a T k j (T.2 k j - v) = tw_in T k j (-v) := by
  unfold tw_in
  rw [show T.2 k j - v = T.2 k j + -v by rw [Int32.sub_eq_add_neg]]
theorem mul20 {k : Int32} {c : Nat} {v : Int32} (hk : k = nI (ix k)) (hv : v = nI c) : 20 * k + v = nI (20 * ix k + c) := by
  rw [hv]
  generalize ix k = j at hk
  subst hk
  rw [show (20 : Int32) = nI 20 from rfl, pk_mul, nI_add]
theorem mt_X3_lend {l : Launch} {G : hp_G} {B : Nat} {h : hp_H} {x : Nat} {ad : Nat → Nat} {T : tw_T} {np nm se ns : Nat} {g q n : Int32} (t0 : TW G x ad T h) (ok : tw_ok T np nm se ns) : hp_M l G B yX3_lend cX3_lend 6 (some .int) 3 0 0 [.ref x, .int g, .int q, .int n] h (hp_E (tw_api G x ad h T (tk_lend T g q n) (T.1 0 + n - 1) (tu_lend (t9 T) g q n))) := by
  refine hp_M.of (by decide) 2 (List.forall_mem_cons.mpr ⟨rfl, (List.forall_mem_cons.mpr ⟨rfl, (List.forall_mem_cons.mpr ⟨rfl, (List.forall_mem_cons.mpr ⟨rfl, (fun _ h => absurd h List.not_mem_nil)⟩)⟩)⟩)⟩) (Nat.le_of_ble_eq_true rfl) ?_
  intro p e s m below meth cd Q ls X hr hlk hnm w hl hQ
  have hl : hp_L ls 6 [some (.ref x), some (.int g), some (.int q), some (.int n), none, none] := hl
  have tw := t0.f
  have ok0 := ok
  obtain ⟨o1, o2, o3, o4, o5, o6, o7, o8, om, ok2, ol⟩ := ok
  have sm0 := tw_sm.rf T
  have J : ∀ (k : Int32) (H : Heap) (locs : List Loc) (ls : Array Slot), hp_Ws G B h s H locs → hp_L ls 6 [some (.ref x), some (.int g), some (.int q), some (.int n), none, none] → k = tk_lend T g q n → W p l e (hp_rm 3 0 0) s m ([.ref x, .int g, .int q, .int n] : List Value).toArray below meth cd H locs 0 0 Q (F0 m 110 ls [.int k, .ref x]) := by
    intro k H locs ls w hl hk
    refine ro_kI (cs_X3_93 X w tw.o (mt_X3_fails tw.1) rfl rfl hl ⟨⟨Nat.le_of_ble_eq_true rfl, Nat.le_of_ble_eq_true rfl⟩, Nat.le_of_ble_eq_true rfl, Nat.le_of_ble_eq_true rfl⟩ (Nat.le_of_ble_eq_true rfl) dX3_lend_110) w (fun h H locs hp110 w => ?_)
    have tw := tw.tr hp110
    refine lv_if_eq (tgt := 118) X.1 X.2.1 dX3_lend_113 (by decide) (fun c113 => ?_) (fun c113 => ?_)
    · have hk0 := tk3_0 hk c113
      have hK := hk.symm.trans hk0
      subst hk0
      obtain ⟨z1, z2, z3⟩ := tk3_z hK
      have pg := isb_px o7 (by omega) (Decidable.not_not.mp z1).1
      have pg2 := pg.2
      refine ro_aload_n X hl dX3_lend_118 rfl (by first | exact Or.inr ⟨_, rfl⟩ | exact Or.inl rfl | exact va_rf_or _) ?_
      refine gf_X3_49 X w dX3_lend_119 tw.o rfl ?_
      refine ro_iload_n X hl dX3_lend_122 rfl ?_
      refine ro_iload_n X hl dX3_lend_123 rfl ?_
      refine tw_iast X w tw 18 (n := 36) rfl rfl dX3_lend_124 pg.1 (by omega) (by decide) (fun h H locs w tw => ?_)
      refine ro_aload_n X hl dX3_lend_125 rfl (by first | exact Or.inr ⟨_, rfl⟩ | exact Or.inl rfl | exact va_rf_or _) ?_
      refine gf_X3_52 X w dX3_lend_126 tw.o rfl ?_
      refine ro_iload_n X hl dX3_lend_129 rfl ?_
      refine ro_aload_n X hl dX3_lend_130 rfl (by first | exact Or.inr ⟨_, rfl⟩ | exact Or.inl rfl | exact va_rf_or _) ?_
      refine gf_X3_90 X w dX3_lend_131 tw.o rfl ?_
      refine ro_iload_n X hl dX3_lend_134 rfl ?_
      refine lv_iadd X.1 X.2.1 dX3_lend_135 ?_
      refine lv_iconst (v := 1) X.1 X.2.1 dX3_lend_136 (by decide) ?_
      refine lv_isub X.1 X.2.1 dX3_lend_137 ?_
      refine tw_iast X w tw 19 (n := 36) rfl rfl dX3_lend_138 pg.1 (by omega) (by decide) (fun h H locs w tw => ?_)
      refine ro_aload_n X hl dX3_lend_139 rfl (by first | exact Or.inr ⟨_, rfl⟩ | exact Or.inl rfl | exact va_rf_or _) ?_
      refine gf_X3_52 X w dX3_lend_140 tw.o rfl ?_
      refine ro_iload_n X hl dX3_lend_143 rfl ?_
      refine ro_ialdE X w dX3_lend_144 (tw.ar 19 (n := 36) rfl rfl) pg.1 (by omega) (by decide) ?_
      exact ro_retI X w hQ hlk dX3_lend_145 hr rfl (Nat.le_of_ble_eq_true rfl) (Nat.le_of_ble_eq_true rfl) (tw_yes tw hK rfl (upd_s _ _ _) (tw_sm.rf _))
    · have hKn := tk3_n hk c113
      refine lv_iconst (v := 0) X.1 X.2.1 dX3_lend_116 (by decide) ?_
      exact ro_retI X w hQ hlk dX3_lend_117 hr rfl (Nat.le_of_ble_eq_true rfl) (Nat.le_of_ble_eq_true rfl) (tw_no tw hk hKn)
  have J2 : ∀ (v : Int32) (H : Heap) (locs : List Loc) (ls : Array Slot), hp_Ws G B h s H locs → hp_L ls 6 [some (.ref x), some (.int g), some (.int q), some (.int n), some (.int (bz (tIs_skin T g q))), none] → (tIs_skin T g q → v = bz (tFree T g q)) → W p l e (hp_rm 3 0 0) s m ([.ref x, .int g, .int q, .int n] : List Value).toArray below meth cd H locs 0 0 Q (F0 m 74 ls [.int v]) := by
    intro v H locs ls w hl hv
    refine ro_istore X hl dX3_lend_74 (by decide) (fun ls hl => ?_)
    refine ro_aload_n X hl dX3_lend_76 rfl (by first | exact Or.inr ⟨_, rfl⟩ | exact Or.inl rfl | exact va_rf_or _) ?_
    refine ro_iload X hl dX3_lend_77 rfl ?_
    refine lv_if_ne (tgt := 86) X.1 X.2.1 dX3_lend_79 (by decide) (fun c79 => ?_) (fun c79 => ?_)
    · refine ro_iload_n X hl dX3_lend_86 rfl ?_
      refine lv_iconst (v := 1) X.1 X.2.1 dX3_lend_87 (by decide) ?_
      refine lv_bipush (v := 100) X.1 X.2.1 dX3_lend_88 (by decide) ?_
      refine ro_kJ (cs_X3_86 X w mt_X3_isIn rfl rfl hl ⟨⟨Nat.le_of_ble_eq_true rfl, Nat.le_of_ble_eq_true rfl⟩, Nat.le_of_ble_eq_true rfl, Nat.le_of_ble_eq_true rfl⟩ (Nat.le_of_ble_eq_true rfl) dX3_lend_90) w (fun H locs w => ?_)
      refine lv_if_ne (tgt := 100) X.1 X.2.1 dX3_lend_93 (by decide) (fun c93 => ?_) (fun c93 => ?_)
      · refine ro_iload X hl dX3_lend_100 rfl ?_
        refine lv_if_eq (tgt := 109) X.1 X.2.1 dX3_lend_102 (by decide) (fun c102 => ?_) (fun c102 => ?_)
        · refine lv_iconst (v := 3) X.1 X.2.1 dX3_lend_109 (by decide) ?_
          exact J _ _ _ ls w (hl.mask [true, true, true, true, false, false]) (tk3_3 (fun q => q (bz1 c79)) c93 (bz0 ((hv (bz1 c79)).symm.trans c102)))
        · refine lv_iconst (v := 0) X.1 X.2.1 dX3_lend_105 (by decide) ?_
          refine lv_goto (tgt := 110) X.1 X.2.1 dX3_lend_106 (by decide) ?_
          exact J _ _ _ ls w (hl.mask [true, true, true, true, false, false]) (tk3_4 (fun q => q (bz1 c79)) c93 (fun q => q (bz1 (by rw [← hv (bz1 c79)]; exact c102))))
      · refine lv_iconst (v := 2) X.1 X.2.1 dX3_lend_96 (by decide) ?_
        refine lv_goto (tgt := 110) X.1 X.2.1 dX3_lend_97 (by decide) ?_
        exact J _ _ _ ls w (hl.mask [true, true, true, true, false, false]) (tk3_2 (fun q => q (bz1 c79)) c93)
    · refine lv_iconst (v := 1) X.1 X.2.1 dX3_lend_82 (by decide) ?_
      refine lv_goto (tgt := 110) X.1 X.2.1 dX3_lend_83 (by decide) ?_
      exact J _ _ _ ls w (hl.mask [true, true, true, true, false, false]) (tk3_1 (bz0 c79))
  have J1 : ∀ (v : Int32) (H : Heap) (locs : List Loc) (ls : Array Slot), hp_Ws G B h s H locs → hp_L ls 6 [some (.ref x), some (.int g), some (.int q), some (.int n), none, none] → v = bz (tIs_skin T g q) → W p l e (hp_rm 3 0 0) s m ([.ref x, .int g, .int q, .int n] : List Value).toArray below meth cd H locs 0 0 Q (F0 m 21 ls [.int v]) := by
    intro v H locs ls w hl hv
    subst hv
    refine ro_istore X hl dX3_lend_21 (by decide) (fun ls hl => ?_)
    refine ro_iload X hl dX3_lend_23 rfl ?_
    refine lv_if_eq (tgt := 73) X.1 X.2.1 dX3_lend_25 (by decide) (fun c25 => ?_) (fun c25 => ?_)
    · refine lv_iconst (v := 0) X.1 X.2.1 dX3_lend_73 (by decide) ?_
      exact J2 _ _ _ ls w (hl.mask [true, true, true, true, true, false]) (fun q => absurd q (bz0 c25))
    · obtain ⟨i1, i2⟩ := bz1 c25
      have pg := isb_px o7 (by omega) i1
      have pg2 := pg.2
      have pq := isb_px o1 (by omega) i2
      obtain ⟨-, -, -, hh, -, -, cc, hc, hc20, -⟩ := ok2 (ix g) pg2
      refine ro_aload_n X hl dX3_lend_28 rfl (by first | exact Or.inr ⟨_, rfl⟩ | exact Or.inl rfl | exact va_rf_or _) ?_
      refine gf_X3_46 X w dX3_lend_29 tw.o rfl ?_
      refine ro_iload_n X hl dX3_lend_32 rfl ?_
      refine ro_ialdE X w dX3_lend_33 (tw.ar 17 (n := 36) rfl rfl) pg.1 (by omega) (by decide) ?_
      refine lv_iconst (v := (-1)) X.1 X.2.1 dX3_lend_34 (by decide) ?_
      refine lv_icmp_eq (tgt := 73) X.1 X.2.1 dX3_lend_35 (by decide) (fun c35 => ?_) (fun c35 => ?_)
      · refine lv_iconst (v := 0) X.1 X.2.1 dX3_lend_73 (by decide) ?_
        exact J2 _ _ _ ls w (hl.mask [true, true, true, true, true, false]) (fun _ => (bz_f (fun q => q.1 c35)).symm)
      · refine ro_aload_n X hl dX3_lend_38 rfl (by first | exact Or.inr ⟨_, rfl⟩ | exact Or.inl rfl | exact va_rf_or _) ?_
        refine gf_X3_46 X w dX3_lend_39 tw.o rfl ?_
        refine ro_iload_n X hl dX3_lend_42 rfl ?_
        refine ro_ialdE X w dX3_lend_43 (tw.ar 17 (n := 36) rfl rfl) pg.1 (by omega) (by decide) ?_
        refine ro_iload_n X hl dX3_lend_44 rfl ?_
        refine lv_icmp_eq (tgt := 73) X.1 X.2.1 dX3_lend_45 (by decide) (fun c45 => ?_) (fun c45 => ?_)
        · refine lv_iconst (v := 0) X.1 X.2.1 dX3_lend_73 (by decide) ?_
          exact J2 _ _ _ ls w (hl.mask [true, true, true, true, true, false]) (fun _ => (bz_f (fun q => q.2.1 c45)).symm)
        · have hh := hh.resolve_left c35
          refine ro_aload_n X hl dX3_lend_48 rfl (by first | exact Or.inr ⟨_, rfl⟩ | exact Or.inl rfl | exact va_rf_or _) ?_
          refine ro_aload_n X hl dX3_lend_49 rfl (by first | exact Or.inr ⟨_, rfl⟩ | exact Or.inl rfl | exact va_rf_or _) ?_
          refine gf_X3_46 X w dX3_lend_50 tw.o rfl ?_
          refine ro_iload_n X hl dX3_lend_53 rfl ?_
          refine ro_ialdE X w dX3_lend_54 (tw.ar 17 (n := 36) rfl rfl) pg.1 (by omega) (by decide) ?_
          refine ro_kJ (cs_X3_110 X w tw.o (mt_X3_isBanned tw.1 (hh.le (by omega))) rfl rfl hl ⟨⟨Nat.le_of_ble_eq_true rfl, Nat.le_of_ble_eq_true rfl⟩, Nat.le_of_ble_eq_true rfl, Nat.le_of_ble_eq_true rfl⟩ (Nat.le_of_ble_eq_true rfl) dX3_lend_55) w (fun H locs w => ?_)
          refine lv_if_ne (tgt := 73) X.1 X.2.1 dX3_lend_58 (by decide) (fun c58 => ?_) (fun c58 => ?_)
          · refine lv_iconst (v := 0) X.1 X.2.1 dX3_lend_73 (by decide) ?_
            exact J2 _ _ _ ls w (hl.mask [true, true, true, true, true, false]) (fun _ => (bz_f (fun q => c58 q.2.2.1)).symm)
          · refine ro_aload_n X hl dX3_lend_61 rfl (by first | exact Or.inr ⟨_, rfl⟩ | exact Or.inl rfl | exact va_rf_or _) ?_
            refine ro_iload_n X hl dX3_lend_62 rfl ?_
            refine ro_kJ (cs_X3_110 X w tw.o (mt_X3_isBanned tw.1 (pq.le (by omega))) rfl rfl hl ⟨⟨Nat.le_of_ble_eq_true rfl, Nat.le_of_ble_eq_true rfl⟩, Nat.le_of_ble_eq_true rfl, Nat.le_of_ble_eq_true rfl⟩ (Nat.le_of_ble_eq_true rfl) dX3_lend_63) w (fun H locs w => ?_)
            refine lv_if_ne (tgt := 73) X.1 X.2.1 dX3_lend_66 (by decide) (fun c66 => ?_) (fun c66 => ?_)
            · refine lv_iconst (v := 0) X.1 X.2.1 dX3_lend_73 (by decide) ?_
              exact J2 _ _ _ ls w (hl.mask [true, true, true, true, true, false]) (fun _ => (bz_f (fun q => c66 q.2.2.2)).symm)
            · refine lv_iconst (v := 1) X.1 X.2.1 dX3_lend_69 (by decide) ?_
              refine lv_goto (tgt := 74) X.1 X.2.1 dX3_lend_70 (by decide) ?_
              exact J2 _ _ _ ls w (hl.mask [true, true, true, true, true, false]) (fun _ => (bz_t ⟨c35, c45, c58, c66⟩).symm)
  refine ro_aload_n X hl dX3_lend_0 rfl (by first | exact Or.inr ⟨_, rfl⟩ | exact Or.inl rfl | exact va_rf_or _) ?_
  refine ro_iload_n X hl dX3_lend_1 rfl ?_
  refine ro_kJ (cs_X3_136 X w tw.o (mt_X3_isSkin tw.1) rfl rfl hl ⟨⟨Nat.le_of_ble_eq_true rfl, Nat.le_of_ble_eq_true rfl⟩, Nat.le_of_ble_eq_true rfl, Nat.le_of_ble_eq_true rfl⟩ (Nat.le_of_ble_eq_true rfl) dX3_lend_2) w (fun H locs w => ?_)
  refine lv_if_eq (tgt := 20) X.1 X.2.1 dX3_lend_5 (by decide) (fun c5 => ?_) (fun c5 => ?_)
  · refine lv_iconst (v := 0) X.1 X.2.1 dX3_lend_20 (by decide) ?_
    exact J1 _ _ _ ls w hl (bz_f (fun q => q.1 c5)).symm
  · refine ro_aload_n X hl dX3_lend_8 rfl (by first | exact Or.inr ⟨_, rfl⟩ | exact Or.inl rfl | exact va_rf_or _) ?_
    refine ro_iload_n X hl dX3_lend_9 rfl ?_
    refine ro_kJ (cs_X3_107 X w tw.o (mt_X3_isPlayer tw.1) rfl rfl hl ⟨⟨Nat.le_of_ble_eq_true rfl, Nat.le_of_ble_eq_true rfl⟩, Nat.le_of_ble_eq_true rfl, Nat.le_of_ble_eq_true rfl⟩ (Nat.le_of_ble_eq_true rfl) dX3_lend_10) w (fun H locs w => ?_)
    refine lv_if_eq (tgt := 20) X.1 X.2.1 dX3_lend_13 (by decide) (fun c13 => ?_) (fun c13 => ?_)
    · refine lv_iconst (v := 0) X.1 X.2.1 dX3_lend_20 (by decide) ?_
      exact J1 _ _ _ ls w hl (bz_f (fun q => q.2 c13)).symm
    · refine lv_iconst (v := 1) X.1 X.2.1 dX3_lend_16 (by decide) ?_
      refine lv_goto (tgt := 21) X.1 X.2.1 dX3_lend_17 (by decide) ?_
      exact J1 _ _ _ ls w hl (bz_t ⟨c5, c13⟩).symm
theorem mt_X3_sell {l : Launch} {G : hp_G} {B : Nat} {h : hp_H} {x : Nat} {ad : Nat → Nat} {T : tw_T} {np nm se ns : Nat} {g q n : Int32} (t0 : TW G x ad T h) (ok : tw_ok T np nm se ns) : hp_M l G B yX3_sell cX3_sell 8 (some .boolean) 3 0 0 [.ref x, .int g, .int q, .int n] h (hp_E (tw_api G x ad h T (tk_sell T g q n) (tv_sell T g q) (tu_sell (t9 T) g q n))) := by
  refine hp_M.of (by decide) 4 (List.forall_mem_cons.mpr ⟨rfl, (List.forall_mem_cons.mpr ⟨rfl, (List.forall_mem_cons.mpr ⟨rfl, (List.forall_mem_cons.mpr ⟨rfl, (fun _ h => absurd h List.not_mem_nil)⟩)⟩)⟩)⟩) (Nat.le_of_ble_eq_true rfl) ?_
  intro p e s m below meth cd Q ls X hr hlk hnm w hl hQ
  have hl : hp_L ls 8 [some (.ref x), some (.int g), some (.int q), some (.int n), none, none, none, none] := hl
  have tw := t0.f
  have ok0 := ok
  obtain ⟨o1, o2, o3, o4, o5, o6, o7, o8, om, ok2, ol⟩ := ok
  have sm0 := tw_sm.rf T
  have J : ∀ (k : Int32) (H : Heap) (locs : List Loc) (ls : Array Slot), hp_Ws G B h s H locs → hp_L ls 8 [some (.ref x), some (.int g), some (.int q), some (.int n), none, none, none, none] → k = tk_sell T g q n → W p l e (hp_rm 3 0 0) s m ([.ref x, .int g, .int q, .int n] : List Value).toArray below meth cd H locs 0 0 Q (F0 m 122 ls [.int k, .ref x]) := by
    intro k H locs ls w hl hk
    refine ro_kI (cs_X3_93 X w tw.o (mt_X3_fails tw.1) rfl rfl hl ⟨⟨Nat.le_of_ble_eq_true rfl, Nat.le_of_ble_eq_true rfl⟩, Nat.le_of_ble_eq_true rfl, Nat.le_of_ble_eq_true rfl⟩ (Nat.le_of_ble_eq_true rfl) dX3_sell_122) w (fun h H locs hp122 w => ?_)
    have tw := tw.tr hp122
    refine lv_if_eq (tgt := 130) X.1 X.2.1 dX3_sell_125 (by decide) (fun c125 => ?_) (fun c125 => ?_)
    · have hk0 := tk3_0 hk c125
      have hK := hk.symm.trans hk0
      subst hk0
      obtain ⟨z1, z2, z3⟩ := tk3_z hK
      have z1 := Decidable.not_not.mp z1
      obtain ⟨⟨f1, f2, f3, f4⟩, z3⟩ := Decidable.not_not.mp z3
      have pg := isb_px o7 (by omega) z1.1
      have pg2 := pg.2
      have pq := isb_px o1 (by omega) z1.2
      have pq2 := pq.2
      obtain ⟨-, -, -, hh, -, -, cc, hc, hc20, -⟩ := ok2 (ix g) pg2
      have hh := hh.resolve_left f1
      have hh2 := hh.2
      have hcc : ix (T.2 21 (ix g)) = cc := by rw [hc]; exact nI_clamp (by omega)
      have hc2 : cc < 20 := by
        rw [hc, show (20 : Int32) = nI 20 from rfl] at z3
        exact (nI_ltI (by omega) (by omega)).mp z3
      have hat : 20 * g + T.2 21 (ix g) = nI (20 * ix g + ix (T.2 21 (ix g))) := by rw [hcc]; exact mul20 pg.1 hc
      have K1 : ∀ (v : Int32) (H : Heap) (locs : List Loc) (ls : Array Slot), hp_Ws G B h s H locs → hp_L ls 8 [some (.ref x), some (.int g), some (.int q), some (.int n), none, none, none, none] → v = tv_sell T g q → W p l e (hp_rm 3 0 0) s m ([.ref x, .int g, .int q, .int n] : List Value).toArray below meth cd H locs (0 + 0) (0 + 0) Q (F0 m 160 ls [.int v]) := by
        intro v H locs ls w hl hv
        subst hv
        refine ro_istore X hl dX3_sell_160 (by decide) (fun ls hl => ?_)
        refine lv_bipush (v := 20) X.1 X.2.1 dX3_sell_162 (by decide) ?_
        refine ro_iload_n X hl dX3_sell_164 rfl ?_
        refine lv_imul X.1 X.2.1 dX3_sell_165 ?_
        refine ro_aload_n X hl dX3_sell_166 rfl (by first | exact Or.inr ⟨_, rfl⟩ | exact Or.inl rfl | exact va_rf_or _) ?_
        refine gf_X3_58 X w dX3_sell_167 tw.o rfl ?_
        refine ro_iload_n X hl dX3_sell_170 rfl ?_
        refine ro_ialdE X w dX3_sell_171 (tw.ar 21 (n := 36) rfl rfl) pg.1 (by omega) (by decide) ?_
        refine lv_iadd X.1 X.2.1 dX3_sell_172 ?_
        refine ro_istore X hl dX3_sell_173 (by decide) (fun ls hl => ?_)
        refine ro_aload_n X hl dX3_sell_175 rfl (by first | exact Or.inr ⟨_, rfl⟩ | exact Or.inl rfl | exact va_rf_or _) ?_
        refine gf_X3_61 X w dX3_sell_176 tw.o rfl ?_
        refine ro_iload X hl dX3_sell_179 rfl ?_
        refine ro_aload_n X hl dX3_sell_181 rfl (by first | exact Or.inr ⟨_, rfl⟩ | exact Or.inl rfl | exact va_rf_or _) ?_
        refine gf_X3_46 X w dX3_sell_182 tw.o rfl ?_
        refine ro_iload_n X hl dX3_sell_185 rfl ?_
        refine ro_ialdE X w dX3_sell_186 (tw.ar 17 (n := 36) rfl rfl) pg.1 (by omega) (by decide) ?_
        refine tw_iast X w tw 22 (n := 720) rfl rfl dX3_sell_187 hat (by omega) (by decide) (fun h H locs w tw => ?_)
        refine ro_aload_n X hl dX3_sell_188 rfl (by first | exact Or.inr ⟨_, rfl⟩ | exact Or.inl rfl | exact va_rf_or _) ?_
        refine gf_X3_64 X w dX3_sell_189 tw.o rfl ?_
        refine ro_iload X hl dX3_sell_192 rfl ?_
        refine ro_iload_n X hl dX3_sell_194 rfl ?_
        refine tw_iast X w tw 23 (n := 720) rfl rfl dX3_sell_195 hat (by omega) (by decide) (fun h H locs w tw => ?_)
        refine ro_aload_n X hl dX3_sell_196 rfl (by first | exact Or.inr ⟨_, rfl⟩ | exact Or.inl rfl | exact va_rf_or _) ?_
        refine gf_X3_67 X w dX3_sell_197 tw.o rfl ?_
        refine ro_iload X hl dX3_sell_200 rfl ?_
        refine ro_iload_n X hl dX3_sell_202 rfl ?_
        refine tw_iast X w tw 24 (n := 720) rfl rfl dX3_sell_203 hat (by omega) (by decide) (fun h H locs w tw => ?_)
        have K2 : ∀ (v : Int32), v = (if ¬ tv_sell T g q = 0 ∧ T.2 20 (ix g) = -1 then T.2 21 (ix g) else T.2 20 (ix g)) → W p l e (hp_rm 3 0 0) s m ([.ref x, .int g, .int q, .int n] : List Value).toArray below meth cd H locs (0 + 0) (0 + 0) Q (F0 m 239 ls [.int v, .int g, .ref (ad 20)]) := by
          intro v hv
          subst hv
          refine tw_iast X w tw 20 (n := 36) rfl rfl dX3_sell_239 pg.1 (by omega) (by decide) (fun h H locs w tw => ?_)
          refine ro_aload_n X hl dX3_sell_240 rfl (by first | exact Or.inr ⟨_, rfl⟩ | exact Or.inl rfl | exact va_rf_or _) ?_
          refine gf_X3_58 X w dX3_sell_241 tw.o rfl ?_
          refine ro_iload_n X hl dX3_sell_244 rfl ?_
          refine lv_dup2_11 X.1 X.2.1 dX3_sell_245 rfl rfl ?_
          refine ro_ialdE X w dX3_sell_246 (tw.ar 21 (n := 36) rfl rfl) pg.1 (by omega) (by decide) ?_
          refine lv_iconst (v := 1) X.1 X.2.1 dX3_sell_247 (by decide) ?_
          refine lv_iadd X.1 X.2.1 dX3_sell_248 ?_
          refine tw_iast X w tw 21 (n := 36) rfl rfl dX3_sell_249 pg.1 (by omega) (by decide) (fun h H locs w tw => ?_)
          refine ro_aload_n X hl dX3_sell_250 rfl (by first | exact Or.inr ⟨_, rfl⟩ | exact Or.inl rfl | exact va_rf_or _) ?_
          refine gf_X3_16 X w dX3_sell_251 tw.o rfl ?_
          refine ro_aload_n X hl dX3_sell_254 rfl (by first | exact Or.inr ⟨_, rfl⟩ | exact Or.inl rfl | exact va_rf_or _) ?_
          refine gf_X3_46 X w dX3_sell_255 tw.o rfl ?_
          refine ro_iload_n X hl dX3_sell_258 rfl ?_
          refine ro_ialdE X w dX3_sell_259 (tw.ar 17 (n := 36) rfl rfl) pg.1 (by omega) (by decide) ?_
          refine lv_dup2_11 X.1 X.2.1 dX3_sell_260 rfl rfl ?_
          refine ro_ialdE X w dX3_sell_261 (tw.ar 4 (n := 16) rfl rfl) hh.1 (by omega) (by decide) ?_
          refine ro_iload_n X hl dX3_sell_262 rfl ?_
          refine lv_iadd X.1 X.2.1 dX3_sell_263 ?_
          refine tw_iast X w tw 4 (n := 16) rfl rfl dX3_sell_264 hh.1 (by omega) (by decide) (fun h H locs w tw => ?_)
          refine ro_aload_n X hl dX3_sell_265 rfl (by first | exact Or.inr ⟨_, rfl⟩ | exact Or.inl rfl | exact va_rf_or _) ?_
          refine gf_X3_16 X w dX3_sell_266 tw.o rfl ?_
          refine ro_iload_n X hl dX3_sell_269 rfl ?_
          refine lv_dup2_11 X.1 X.2.1 dX3_sell_270 rfl rfl ?_
          refine ro_ialdE X w dX3_sell_271 (tw.ar 4 (n := 16) rfl rfl) pq.1 (by omega) (by decide) ?_
          refine ro_iload_n X hl dX3_sell_272 rfl ?_
          refine lv_isub X.1 X.2.1 dX3_sell_273 ?_
          refine tw_iast X w tw 4 (n := 16) rfl rfl dX3_sell_274 pq.1 (by omega) (by decide) (fun h H locs w tw => ?_)
          refine ro_aload_n X hl dX3_sell_275 rfl (by first | exact Or.inr ⟨_, rfl⟩ | exact Or.inl rfl | exact va_rf_or _) ?_
          refine gf_X3_46 X w dX3_sell_276 tw.o rfl ?_
          refine ro_iload_n X hl dX3_sell_279 rfl ?_
          refine ro_iload_n X hl dX3_sell_280 rfl ?_
          refine tw_iast X w tw 17 (n := 36) rfl rfl dX3_sell_281 pg.1 (by omega) (by decide) (fun h H locs w tw => ?_)
          refine ro_aload_n X hl dX3_sell_282 rfl (by first | exact Or.inr ⟨_, rfl⟩ | exact Or.inl rfl | exact va_rf_or _) ?_
          refine gf_X3_49 X w dX3_sell_283 tw.o rfl ?_
          refine ro_iload_n X hl dX3_sell_286 rfl ?_
          refine lv_iconst (v := (-1)) X.1 X.2.1 dX3_sell_287 (by decide) ?_
          refine tw_iast X w tw 18 (n := 36) rfl rfl dX3_sell_288 pg.1 (by omega) (by decide) (fun h H locs w tw => ?_)
          refine ro_iload X hl dX3_sell_289 rfl ?_
          exact ro_retI X w hQ hlk dX3_sell_291 hr (by first | rfl | exact bz_n) (Nat.le_of_ble_eq_true rfl) (Nat.le_of_ble_eq_true rfl) (tw_yes (tw.cast (T' := tu_sell (t9 T) g q n) (by unfold tu_sell ts_3; rw [← tw_add]; rfl)) hK rfl rfl (tw_sm.rf _))
        refine ro_aload_n X hl dX3_sell_204 rfl (by first | exact Or.inr ⟨_, rfl⟩ | exact Or.inl rfl | exact va_rf_or _) ?_
        refine gf_X3_55 X w dX3_sell_205 tw.o rfl ?_
        refine ro_iload_n X hl dX3_sell_208 rfl ?_
        refine ro_iload X hl dX3_sell_209 rfl ?_
        refine lv_if_eq (tgt := 233) X.1 X.2.1 dX3_sell_211 (by decide) (fun c211 => ?_) (fun c211 => ?_)
        · refine ro_aload_n X hl dX3_sell_233 rfl (by first | exact Or.inr ⟨_, rfl⟩ | exact Or.inl rfl | exact va_rf_or _) ?_
          refine gf_X3_55 X w dX3_sell_234 tw.o rfl ?_
          refine ro_iload_n X hl dX3_sell_237 rfl ?_
          refine ro_ialdE X w dX3_sell_238 (tw.ar 20 (n := 36) rfl rfl) pg.1 (by omega) (by decide) ?_
          exact K2 _ (if_neg (fun q => q.1 c211)).symm
        · refine ro_aload_n X hl dX3_sell_214 rfl (by first | exact Or.inr ⟨_, rfl⟩ | exact Or.inl rfl | exact va_rf_or _) ?_
          refine gf_X3_55 X w dX3_sell_215 tw.o rfl ?_
          refine ro_iload_n X hl dX3_sell_218 rfl ?_
          refine ro_ialdE X w dX3_sell_219 (tw.ar 20 (n := 36) rfl rfl) pg.1 (by omega) (by decide) ?_
          refine lv_iconst (v := (-1)) X.1 X.2.1 dX3_sell_220 (by decide) ?_
          refine lv_icmp_ne (tgt := 233) X.1 X.2.1 dX3_sell_221 (by decide) (fun c221 => ?_) (fun c221 => ?_)
          · refine ro_aload_n X hl dX3_sell_233 rfl (by first | exact Or.inr ⟨_, rfl⟩ | exact Or.inl rfl | exact va_rf_or _) ?_
            refine gf_X3_55 X w dX3_sell_234 tw.o rfl ?_
            refine ro_iload_n X hl dX3_sell_237 rfl ?_
            refine ro_ialdE X w dX3_sell_238 (tw.ar 20 (n := 36) rfl rfl) pg.1 (by omega) (by decide) ?_
            exact K2 _ (if_neg (fun q => c221 q.2)).symm
          · refine ro_aload_n X hl dX3_sell_224 rfl (by first | exact Or.inr ⟨_, rfl⟩ | exact Or.inl rfl | exact va_rf_or _) ?_
            refine gf_X3_58 X w dX3_sell_225 tw.o rfl ?_
            refine ro_iload_n X hl dX3_sell_228 rfl ?_
            refine ro_ialdE X w dX3_sell_229 (tw.ar 21 (n := 36) rfl rfl) pg.1 (by omega) (by decide) ?_
            refine lv_goto (tgt := 239) X.1 X.2.1 dX3_sell_230 (by decide) ?_
            exact K2 _ (if_pos ⟨c211, c221⟩).symm
      refine ro_aload_n X hl dX3_sell_130 rfl (by first | exact Or.inr ⟨_, rfl⟩ | exact Or.inl rfl | exact va_rf_or _) ?_
      refine gf_X3_7 X w dX3_sell_131 tw.o rfl ?_
      refine ro_aload_n X hl dX3_sell_134 rfl (by first | exact Or.inr ⟨_, rfl⟩ | exact Or.inl rfl | exact va_rf_or _) ?_
      refine gf_X3_46 X w dX3_sell_135 tw.o rfl ?_
      refine ro_iload_n X hl dX3_sell_138 rfl ?_
      refine ro_ialdE X w dX3_sell_139 (tw.ar 17 (n := 36) rfl rfl) pg.1 (by omega) (by decide) ?_
      refine ro_ialdE X w dX3_sell_140 (tw.ar 2 (n := 16) rfl rfl) hh.1 (by omega) (by decide) ?_
      refine lv_iconst (v := (-1)) X.1 X.2.1 dX3_sell_141 (by decide) ?_
      refine lv_icmp_ne (tgt := 159) X.1 X.2.1 dX3_sell_142 (by decide) (fun c142 => ?_) (fun c142 => ?_)
      · refine lv_iconst (v := 0) X.1 X.2.1 dX3_sell_159 (by decide) ?_
        exact K1 _ _ _ ls w (hl.mask [true, true, true, true, false, false, false, false]) (bz_f (fun q => c142 q.1)).symm
      · refine ro_aload_n X hl dX3_sell_145 rfl (by first | exact Or.inr ⟨_, rfl⟩ | exact Or.inl rfl | exact va_rf_or _) ?_
        refine gf_X3_7 X w dX3_sell_146 tw.o rfl ?_
        refine ro_iload_n X hl dX3_sell_149 rfl ?_
        refine ro_ialdE X w dX3_sell_150 (tw.ar 2 (n := 16) rfl rfl) pq.1 (by omega) (by decide) ?_
        refine lv_iconst (v := (-1)) X.1 X.2.1 dX3_sell_151 (by decide) ?_
        refine lv_icmp_ne (tgt := 159) X.1 X.2.1 dX3_sell_152 (by decide) (fun c152 => ?_) (fun c152 => ?_)
        · refine lv_iconst (v := 0) X.1 X.2.1 dX3_sell_159 (by decide) ?_
          exact K1 _ _ _ ls w (hl.mask [true, true, true, true, false, false, false, false]) (bz_f (fun q => c152 q.2)).symm
        · refine lv_iconst (v := 1) X.1 X.2.1 dX3_sell_155 (by decide) ?_
          refine lv_goto (tgt := 160) X.1 X.2.1 dX3_sell_156 (by decide) ?_
          exact K1 _ _ _ ls w (hl.mask [true, true, true, true, false, false, false, false]) (bz_t ⟨c142, c152⟩).symm
    · have hKn := tk3_n hk c125
      refine lv_iconst (v := 0) X.1 X.2.1 dX3_sell_128 (by decide) ?_
      exact ro_retI X w hQ hlk dX3_sell_129 hr (by first | rfl | exact bz_n) (Nat.le_of_ble_eq_true rfl) (Nat.le_of_ble_eq_true rfl) (tw_no tw hk hKn)
  have J2 : ∀ (v : Int32) (H : Heap) (locs : List Loc) (ls : Array Slot), hp_Ws G B h s H locs → hp_L ls 8 [some (.ref x), some (.int g), some (.int q), some (.int n), some (.int (bz (tIs_skin T g q))), none, none, none] → (tIs_skin T g q → v = bz (tFree T g q ∧ T.2 21 (ix g) < 20)) → W p l e (hp_rm 3 0 0) s m ([.ref x, .int g, .int q, .int n] : List Value).toArray below meth cd H locs 0 0 Q (F0 m 85 ls [.int v]) := by
    intro v H locs ls w hl hv
    refine ro_istore X hl dX3_sell_85 (by decide) (fun ls hl => ?_)
    refine ro_aload_n X hl dX3_sell_87 rfl (by first | exact Or.inr ⟨_, rfl⟩ | exact Or.inl rfl | exact va_rf_or _) ?_
    refine ro_iload X hl dX3_sell_88 rfl ?_
    refine lv_if_ne (tgt := 97) X.1 X.2.1 dX3_sell_90 (by decide) (fun c90 => ?_) (fun c90 => ?_)
    · refine ro_iload_n X hl dX3_sell_97 rfl ?_
      refine lv_iconst (v := 0) X.1 X.2.1 dX3_sell_98 (by decide) ?_
      refine lv_sipush (v := 10000) X.1 X.2.1 dX3_sell_99 (by decide) ?_
      refine ro_kJ (cs_X3_86 X w mt_X3_isIn rfl rfl hl ⟨⟨Nat.le_of_ble_eq_true rfl, Nat.le_of_ble_eq_true rfl⟩, Nat.le_of_ble_eq_true rfl, Nat.le_of_ble_eq_true rfl⟩ (Nat.le_of_ble_eq_true rfl) dX3_sell_102) w (fun H locs w => ?_)
      refine lv_if_ne (tgt := 112) X.1 X.2.1 dX3_sell_105 (by decide) (fun c105 => ?_) (fun c105 => ?_)
      · refine ro_iload X hl dX3_sell_112 rfl ?_
        refine lv_if_eq (tgt := 121) X.1 X.2.1 dX3_sell_114 (by decide) (fun c114 => ?_) (fun c114 => ?_)
        · refine lv_iconst (v := 3) X.1 X.2.1 dX3_sell_121 (by decide) ?_
          exact J _ _ _ ls w (hl.mask [true, true, true, true, false, false, false, false]) (tk3_3 (fun q => q (bz1 c90)) c105 (bz0 ((hv (bz1 c90)).symm.trans c114)))
        · refine lv_iconst (v := 0) X.1 X.2.1 dX3_sell_117 (by decide) ?_
          refine lv_goto (tgt := 122) X.1 X.2.1 dX3_sell_118 (by decide) ?_
          exact J _ _ _ ls w (hl.mask [true, true, true, true, false, false, false, false]) (tk3_4 (fun q => q (bz1 c90)) c105 (fun q => q (bz1 (by rw [← hv (bz1 c90)]; exact c114))))
      · refine lv_iconst (v := 2) X.1 X.2.1 dX3_sell_108 (by decide) ?_
        refine lv_goto (tgt := 122) X.1 X.2.1 dX3_sell_109 (by decide) ?_
        exact J _ _ _ ls w (hl.mask [true, true, true, true, false, false, false, false]) (tk3_2 (fun q => q (bz1 c90)) c105)
    · refine lv_iconst (v := 1) X.1 X.2.1 dX3_sell_93 (by decide) ?_
      refine lv_goto (tgt := 122) X.1 X.2.1 dX3_sell_94 (by decide) ?_
      exact J _ _ _ ls w (hl.mask [true, true, true, true, false, false, false, false]) (tk3_1 (bz0 c90))
  have J1 : ∀ (v : Int32) (H : Heap) (locs : List Loc) (ls : Array Slot), hp_Ws G B h s H locs → hp_L ls 8 [some (.ref x), some (.int g), some (.int q), some (.int n), none, none, none, none] → v = bz (tIs_skin T g q) → W p l e (hp_rm 3 0 0) s m ([.ref x, .int g, .int q, .int n] : List Value).toArray below meth cd H locs 0 0 Q (F0 m 21 ls [.int v]) := by
    intro v H locs ls w hl hv
    subst hv
    refine ro_istore X hl dX3_sell_21 (by decide) (fun ls hl => ?_)
    refine ro_iload X hl dX3_sell_23 rfl ?_
    refine lv_if_eq (tgt := 84) X.1 X.2.1 dX3_sell_25 (by decide) (fun c25 => ?_) (fun c25 => ?_)
    · refine lv_iconst (v := 0) X.1 X.2.1 dX3_sell_84 (by decide) ?_
      exact J2 _ _ _ ls w (hl.mask [true, true, true, true, true, false, false, false]) (fun q => absurd q (bz0 c25))
    · obtain ⟨i1, i2⟩ := bz1 c25
      have pg := isb_px o7 (by omega) i1
      have pg2 := pg.2
      have pq := isb_px o1 (by omega) i2
      obtain ⟨-, -, -, hh, -, -, cc, hc, hc20, -⟩ := ok2 (ix g) pg2
      refine ro_aload_n X hl dX3_sell_28 rfl (by first | exact Or.inr ⟨_, rfl⟩ | exact Or.inl rfl | exact va_rf_or _) ?_
      refine gf_X3_46 X w dX3_sell_29 tw.o rfl ?_
      refine ro_iload_n X hl dX3_sell_32 rfl ?_
      refine ro_ialdE X w dX3_sell_33 (tw.ar 17 (n := 36) rfl rfl) pg.1 (by omega) (by decide) ?_
      refine lv_iconst (v := (-1)) X.1 X.2.1 dX3_sell_34 (by decide) ?_
      refine lv_icmp_eq (tgt := 84) X.1 X.2.1 dX3_sell_35 (by decide) (fun c35 => ?_) (fun c35 => ?_)
      · refine lv_iconst (v := 0) X.1 X.2.1 dX3_sell_84 (by decide) ?_
        exact J2 _ _ _ ls w (hl.mask [true, true, true, true, true, false, false, false]) (fun _ => (bz_f (fun q => q.1.1 c35)).symm)
      · refine ro_aload_n X hl dX3_sell_38 rfl (by first | exact Or.inr ⟨_, rfl⟩ | exact Or.inl rfl | exact va_rf_or _) ?_
        refine gf_X3_46 X w dX3_sell_39 tw.o rfl ?_
        refine ro_iload_n X hl dX3_sell_42 rfl ?_
        refine ro_ialdE X w dX3_sell_43 (tw.ar 17 (n := 36) rfl rfl) pg.1 (by omega) (by decide) ?_
        refine ro_iload_n X hl dX3_sell_44 rfl ?_
        refine lv_icmp_eq (tgt := 84) X.1 X.2.1 dX3_sell_45 (by decide) (fun c45 => ?_) (fun c45 => ?_)
        · refine lv_iconst (v := 0) X.1 X.2.1 dX3_sell_84 (by decide) ?_
          exact J2 _ _ _ ls w (hl.mask [true, true, true, true, true, false, false, false]) (fun _ => (bz_f (fun q => q.1.2.1 c45)).symm)
        · have hh := hh.resolve_left c35
          refine ro_aload_n X hl dX3_sell_48 rfl (by first | exact Or.inr ⟨_, rfl⟩ | exact Or.inl rfl | exact va_rf_or _) ?_
          refine ro_aload_n X hl dX3_sell_49 rfl (by first | exact Or.inr ⟨_, rfl⟩ | exact Or.inl rfl | exact va_rf_or _) ?_
          refine gf_X3_46 X w dX3_sell_50 tw.o rfl ?_
          refine ro_iload_n X hl dX3_sell_53 rfl ?_
          refine ro_ialdE X w dX3_sell_54 (tw.ar 17 (n := 36) rfl rfl) pg.1 (by omega) (by decide) ?_
          refine ro_kJ (cs_X3_110 X w tw.o (mt_X3_isBanned tw.1 (hh.le (by omega))) rfl rfl hl ⟨⟨Nat.le_of_ble_eq_true rfl, Nat.le_of_ble_eq_true rfl⟩, Nat.le_of_ble_eq_true rfl, Nat.le_of_ble_eq_true rfl⟩ (Nat.le_of_ble_eq_true rfl) dX3_sell_55) w (fun H locs w => ?_)
          refine lv_if_ne (tgt := 84) X.1 X.2.1 dX3_sell_58 (by decide) (fun c58 => ?_) (fun c58 => ?_)
          · refine lv_iconst (v := 0) X.1 X.2.1 dX3_sell_84 (by decide) ?_
            exact J2 _ _ _ ls w (hl.mask [true, true, true, true, true, false, false, false]) (fun _ => (bz_f (fun q => c58 q.1.2.2.1)).symm)
          · refine ro_aload_n X hl dX3_sell_61 rfl (by first | exact Or.inr ⟨_, rfl⟩ | exact Or.inl rfl | exact va_rf_or _) ?_
            refine ro_iload_n X hl dX3_sell_62 rfl ?_
            refine ro_kJ (cs_X3_110 X w tw.o (mt_X3_isBanned tw.1 (pq.le (by omega))) rfl rfl hl ⟨⟨Nat.le_of_ble_eq_true rfl, Nat.le_of_ble_eq_true rfl⟩, Nat.le_of_ble_eq_true rfl, Nat.le_of_ble_eq_true rfl⟩ (Nat.le_of_ble_eq_true rfl) dX3_sell_63) w (fun H locs w => ?_)
            refine lv_if_ne (tgt := 84) X.1 X.2.1 dX3_sell_66 (by decide) (fun c66 => ?_) (fun c66 => ?_)
            · refine lv_iconst (v := 0) X.1 X.2.1 dX3_sell_84 (by decide) ?_
              exact J2 _ _ _ ls w (hl.mask [true, true, true, true, true, false, false, false]) (fun _ => (bz_f (fun q => c66 q.1.2.2.2)).symm)
            · refine ro_aload_n X hl dX3_sell_69 rfl (by first | exact Or.inr ⟨_, rfl⟩ | exact Or.inl rfl | exact va_rf_or _) ?_
              refine gf_X3_58 X w dX3_sell_70 tw.o rfl ?_
              refine ro_iload_n X hl dX3_sell_73 rfl ?_
              refine ro_ialdE X w dX3_sell_74 (tw.ar 21 (n := 36) rfl rfl) pg.1 (by omega) (by decide) ?_
              refine lv_bipush (v := 20) X.1 X.2.1 dX3_sell_75 (by decide) ?_
              refine lv_icmp_ge (tgt := 84) X.1 X.2.1 dX3_sell_77 (by decide) (fun c77 => ?_) (fun c77 => ?_)
              · refine lv_iconst (v := 0) X.1 X.2.1 dX3_sell_84 (by decide) ?_
                exact J2 _ _ _ ls w (hl.mask [true, true, true, true, true, false, false, false]) (fun _ => (bz_f (fun q => absurd q.2 (Int32.not_lt.mpr c77))).symm)
              · refine lv_iconst (v := 1) X.1 X.2.1 dX3_sell_80 (by decide) ?_
                refine lv_goto (tgt := 85) X.1 X.2.1 dX3_sell_81 (by decide) ?_
                exact J2 _ _ _ ls w (hl.mask [true, true, true, true, true, false, false, false]) (fun _ => (bz_t ⟨⟨c35, c45, c58, c66⟩, Int32.not_le.mp c77⟩).symm)
  refine ro_aload_n X hl dX3_sell_0 rfl (by first | exact Or.inr ⟨_, rfl⟩ | exact Or.inl rfl | exact va_rf_or _) ?_
  refine ro_iload_n X hl dX3_sell_1 rfl ?_
  refine ro_kJ (cs_X3_136 X w tw.o (mt_X3_isSkin tw.1) rfl rfl hl ⟨⟨Nat.le_of_ble_eq_true rfl, Nat.le_of_ble_eq_true rfl⟩, Nat.le_of_ble_eq_true rfl, Nat.le_of_ble_eq_true rfl⟩ (Nat.le_of_ble_eq_true rfl) dX3_sell_2) w (fun H locs w => ?_)
  refine lv_if_eq (tgt := 20) X.1 X.2.1 dX3_sell_5 (by decide) (fun c5 => ?_) (fun c5 => ?_)
  · refine lv_iconst (v := 0) X.1 X.2.1 dX3_sell_20 (by decide) ?_
    exact J1 _ _ _ ls w (hl.mask [true, true, true, true, false, false, false, false]) (bz_f (fun q => q.1 c5)).symm
  · refine ro_aload_n X hl dX3_sell_8 rfl (by first | exact Or.inr ⟨_, rfl⟩ | exact Or.inl rfl | exact va_rf_or _) ?_
    refine ro_iload_n X hl dX3_sell_9 rfl ?_
    refine ro_kJ (cs_X3_107 X w tw.o (mt_X3_isPlayer tw.1) rfl rfl hl ⟨⟨Nat.le_of_ble_eq_true rfl, Nat.le_of_ble_eq_true rfl⟩, Nat.le_of_ble_eq_true rfl, Nat.le_of_ble_eq_true rfl⟩ (Nat.le_of_ble_eq_true rfl) dX3_sell_10) w (fun H locs w => ?_)
    refine lv_if_eq (tgt := 20) X.1 X.2.1 dX3_sell_13 (by decide) (fun c13 => ?_) (fun c13 => ?_)
    · refine lv_iconst (v := 0) X.1 X.2.1 dX3_sell_20 (by decide) ?_
      exact J1 _ _ _ ls w (hl.mask [true, true, true, true, false, false, false, false]) (bz_f (fun q => q.2 c13)).symm
    · refine lv_iconst (v := 1) X.1 X.2.1 dX3_sell_16 (by decide) ?_
      refine lv_goto (tgt := 21) X.1 X.2.1 dX3_sell_17 (by decide) ?_
      exact J1 _ _ _ ls w (hl.mask [true, true, true, true, false, false, false, false]) (bz_t ⟨c5, c13⟩).symm
