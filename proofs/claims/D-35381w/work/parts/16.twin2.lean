/-! THE REFERENCE: its public methods walked (printed by tools/m16.py) -/
set_option maxRecDepth 100000
theorem mt_X3_pass {l : Launch} {G : hp_G} {B : Nat} {h : hp_H} {x : Nat} {ad : Nat → Nat} {T : tw_T} {np nm se ns : Nat} {v : Int32} (t0 : TW G x ad T h) (ok : tw_ok T np nm se ns) : hp_M l G B yX3_pass cX3_pass 2 (some .int) 2 0 0 [.ref x, .int v] h (hp_E (tw_api G x ad h T (tk_pass v) (T.1 0 + v) (tu_pass (t9 T) v))) := by
  refine hp_M.of (by decide) 0 (List.forall_mem_cons.mpr ⟨rfl, (List.forall_mem_cons.mpr ⟨rfl, (fun _ h => absurd h List.not_mem_nil)⟩)⟩) (Nat.le_of_ble_eq_true rfl) ?_
  intro p e s m below meth cd Q ls X hr hlk hnm w hl hQ
  have hl : hp_L ls 2 [some (.ref x), some (.int v)] := hl
  have tw := t0.f
  have ok0 := ok
  obtain ⟨o1, o2, o3, o4, o5, o6, o7, o8, om, ok2, ol⟩ := ok
  have sm0 := tw_sm.rf T
  have J : ∀ (k : Int32) (H : Heap) (locs : List Loc) (ls : Array Slot), hp_Ws G B h s H locs → hp_L ls 2 [some (.ref x), some (.int v)] → k = tk_pass v → W p l e (hp_rm 2 0 0) s m ([.ref x, .int v] : List Value).toArray below meth cd H locs 0 0 Q (F0 m 17 ls [.int k, .ref x]) := by
    intro k H locs ls w hl hk
    refine ro_kI (cs_X3_93 X w tw.o (mt_X3_fails tw.1) rfl rfl hl ⟨⟨Nat.le_of_ble_eq_true rfl, Nat.le_of_ble_eq_true rfl⟩, Nat.le_of_ble_eq_true rfl, Nat.le_of_ble_eq_true rfl⟩ (Nat.le_of_ble_eq_true rfl) dX3_pass_17) w (fun h H locs hp17 w => ?_)
    have tw := tw.tr hp17
    refine lv_if_eq (tgt := 25) X.1 X.2.1 dX3_pass_20 (by decide) (fun c20 => ?_) (fun c20 => ?_)
    · have hk0 := tk3_0 hk c20
      have hK := hk.symm.trans hk0
      subst hk0
      refine ro_aload_n X hl dX3_pass_25 rfl (by first | exact Or.inr ⟨_, rfl⟩ | exact Or.inl rfl | exact va_rf_or _) ?_
      refine lv_dup X.1 X.2.1 dX3_pass_26 rfl ?_
      refine gf_X3_90 X w dX3_pass_27 tw.o rfl ?_
      refine ro_iload_n X hl dX3_pass_30 rfl ?_
      refine lv_iadd X.1 X.2.1 dX3_pass_31 ?_
      refine tp_X3_90 X w tw dX3_pass_32 (fun h H locs w tw => ?_)
      refine ro_aload_n X hl dX3_pass_35 rfl (by first | exact Or.inr ⟨_, rfl⟩ | exact Or.inl rfl | exact va_rf_or _) ?_
      refine gf_X3_90 X w dX3_pass_36 tw.o rfl ?_
      exact ro_retI X w hQ hlk dX3_pass_39 hr rfl (Nat.le_of_ble_eq_true rfl) (Nat.le_of_ble_eq_true rfl) (tw_yes tw hK rfl rfl (tw_sm.rf _))
    · have hKn := tk3_n hk c20
      refine lv_iconst (v := 0) X.1 X.2.1 dX3_pass_23 (by decide) ?_
      exact ro_retI X w hQ hlk dX3_pass_24 hr rfl (Nat.le_of_ble_eq_true rfl) (Nat.le_of_ble_eq_true rfl) (tw_no tw hk hKn)
  refine ro_aload_n X hl dX3_pass_0 rfl (by first | exact Or.inr ⟨_, rfl⟩ | exact Or.inl rfl | exact va_rf_or _) ?_
  refine ro_iload_n X hl dX3_pass_1 rfl ?_
  refine lv_iconst (v := 1) X.1 X.2.1 dX3_pass_2 (by decide) ?_
  refine lv_sipush (v := 400) X.1 X.2.1 dX3_pass_3 (by decide) ?_
  refine ro_kJ (cs_X3_86 X w mt_X3_isIn rfl rfl hl ⟨⟨Nat.le_of_ble_eq_true rfl, Nat.le_of_ble_eq_true rfl⟩, Nat.le_of_ble_eq_true rfl, Nat.le_of_ble_eq_true rfl⟩ (Nat.le_of_ble_eq_true rfl) dX3_pass_6) w (fun H locs w => ?_)
  refine lv_if_eq (tgt := 16) X.1 X.2.1 dX3_pass_9 (by decide) (fun c9 => ?_) (fun c9 => ?_)
  · refine lv_iconst (v := 1) X.1 X.2.1 dX3_pass_16 (by decide) ?_
    exact J _ _ _ ls w (hl.mask [true, true]) (tk3_1 c9)
  · refine lv_iconst (v := 0) X.1 X.2.1 dX3_pass_12 (by decide) ?_
    refine lv_goto (tgt := 17) X.1 X.2.1 dX3_pass_13 (by decide) ?_
    exact J _ _ _ ls w (hl.mask [true, true]) (tk3_4 c9 id id)
theorem mt_X3_player {l : Launch} {G : hp_G} {B : Nat} {h : hp_H} {x : Nat} {ad : Nat → Nat} {T : tw_T} {np nm se ns : Nat} (t0 : TW G x ad T h) (ok : tw_ok T np nm se ns) : hp_M l G B yX3_player cX3_player 1 (some .int) 2 0 0 [.ref x] h (hp_E (tw_api G x ad h T (tk_player T) (T.1 1 + 1 - 1) (tu_player (t9 T) np))) := by
  refine hp_M.of (by decide) 0 (List.forall_mem_cons.mpr ⟨rfl, (fun _ h => absurd h List.not_mem_nil)⟩) (Nat.le_of_ble_eq_true rfl) ?_
  intro p e s m below meth cd Q ls X hr hlk hnm w hl hQ
  have hl : hp_L ls 1 [some (.ref x)] := hl
  have tw := t0.f
  have ok0 := ok
  obtain ⟨o1, o2, o3, o4, o5, o6, o7, o8, om, ok2, ol⟩ := ok
  have sm0 := tw_sm.rf T
  have J : ∀ (k : Int32) (H : Heap) (locs : List Loc) (ls : Array Slot), hp_Ws G B h s H locs → hp_L ls 1 [some (.ref x)] → k = tk_player T → W p l e (hp_rm 2 0 0) s m ([.ref x] : List Value).toArray below meth cd H locs 0 0 Q (F0 m 15 ls [.int k, .ref x]) := by
    intro k H locs ls w hl hk
    refine ro_kI (cs_X3_93 X w tw.o (mt_X3_fails tw.1) rfl rfl hl ⟨⟨Nat.le_of_ble_eq_true rfl, Nat.le_of_ble_eq_true rfl⟩, Nat.le_of_ble_eq_true rfl, Nat.le_of_ble_eq_true rfl⟩ (Nat.le_of_ble_eq_true rfl) dX3_player_15) w (fun h H locs hp15 w => ?_)
    have tw := tw.tr hp15
    refine lv_if_eq (tgt := 23) X.1 X.2.1 dX3_player_18 (by decide) (fun c18 => ?_) (fun c18 => ?_)
    · have hk0 := tk3_0 hk c18
      have hK := hk.symm.trans hk0
      subst hk0
      have z := (tk3_z hK).1
      have hnp : np < 16 := by
        rcases Nat.lt_or_ge np 16 with q | q
        · exact q
        · exact absurd (by rw [o1, show np = 16 by omega]; rfl) z
      refine ro_aload_n X hl dX3_player_23 rfl (by first | exact Or.inr ⟨_, rfl⟩ | exact Or.inl rfl | exact va_rf_or _) ?_
      refine gf_X3_7 X w dX3_player_24 tw.o rfl ?_
      refine ro_aload_n X hl dX3_player_27 rfl (by first | exact Or.inr ⟨_, rfl⟩ | exact Or.inl rfl | exact va_rf_or _) ?_
      refine gf_X3_83 X w dX3_player_28 tw.o rfl ?_
      refine lv_iconst (v := (-1)) X.1 X.2.1 dX3_player_31 (by decide) ?_
      refine tw_iast X w tw 2 (n := 16) rfl rfl dX3_player_32 o1 hnp (by decide) (fun h H locs w tw => ?_)
      refine ro_aload_n X hl dX3_player_33 rfl (by first | exact Or.inr ⟨_, rfl⟩ | exact Or.inl rfl | exact va_rf_or _) ?_
      refine lv_dup X.1 X.2.1 dX3_player_34 rfl ?_
      refine gf_X3_83 X w dX3_player_35 tw.o rfl ?_
      refine lv_iconst (v := 1) X.1 X.2.1 dX3_player_38 (by decide) ?_
      refine lv_iadd X.1 X.2.1 dX3_player_39 ?_
      refine tp_X3_83 X w tw dX3_player_40 (fun h H locs w tw => ?_)
      refine ro_aload_n X hl dX3_player_43 rfl (by first | exact Or.inr ⟨_, rfl⟩ | exact Or.inl rfl | exact va_rf_or _) ?_
      refine gf_X3_83 X w dX3_player_44 tw.o rfl ?_
      refine lv_iconst (v := 1) X.1 X.2.1 dX3_player_47 (by decide) ?_
      refine lv_isub X.1 X.2.1 dX3_player_48 ?_
      exact ro_retI X w hQ hlk dX3_player_49 hr rfl (Nat.le_of_ble_eq_true rfl) (Nat.le_of_ble_eq_true rfl) (tw_yes tw hK rfl rfl (tw_sm.rf _))
    · have hKn := tk3_n hk c18
      refine lv_iconst (v := 0) X.1 X.2.1 dX3_player_21 (by decide) ?_
      exact ro_retI X w hQ hlk dX3_player_22 hr rfl (Nat.le_of_ble_eq_true rfl) (Nat.le_of_ble_eq_true rfl) (tw_no tw hk hKn)
  refine ro_aload_n X hl dX3_player_0 rfl (by first | exact Or.inr ⟨_, rfl⟩ | exact Or.inl rfl | exact va_rf_or _) ?_
  refine ro_aload_n X hl dX3_player_1 rfl (by first | exact Or.inr ⟨_, rfl⟩ | exact Or.inl rfl | exact va_rf_or _) ?_
  refine gf_X3_83 X w dX3_player_2 tw.o rfl ?_
  refine lv_bipush (v := 16) X.1 X.2.1 dX3_player_5 (by decide) ?_
  refine lv_icmp_ne (tgt := 14) X.1 X.2.1 dX3_player_7 (by decide) (fun c7 => ?_) (fun c7 => ?_)
  · refine lv_iconst (v := 0) X.1 X.2.1 dX3_player_14 (by decide) ?_
    exact J _ _ _ ls w (hl.mask [true]) (tk3_4 c7 id id)
  · refine lv_iconst (v := 1) X.1 X.2.1 dX3_player_10 (by decide) ?_
    refine lv_goto (tgt := 15) X.1 X.2.1 dX3_player_11 (by decide) ?_
    exact J _ _ _ ls w (hl.mask [true]) (tk3_1 c7)
theorem mt_X3_room {l : Launch} {G : hp_G} {B : Nat} {h : hp_H} {x : Nat} {ad : Nat → Nat} {T : tw_T} {np nm se ns : Nat} {r n : Int32} (t0 : TW G x ad T h) (ok : tw_ok T np nm se ns) : hp_M l G B yX3_room cX3_room 3 (some .int) 3 0 0 [.ref x, .int r, .int n] h (hp_E (tw_api G x ad h T (tk_room r n) (tw_td T r nm) (tu_room (t9 T) r n))) := by
  refine hp_M.of (by decide) 0 (List.forall_mem_cons.mpr ⟨rfl, (List.forall_mem_cons.mpr ⟨rfl, (List.forall_mem_cons.mpr ⟨rfl, (fun _ h => absurd h List.not_mem_nil)⟩)⟩)⟩) (Nat.le_of_ble_eq_true rfl) ?_
  intro p e s m below meth cd Q ls X hr hlk hnm w hl hQ
  have hl : hp_L ls 3 [some (.ref x), some (.int r), some (.int n)] := hl
  have tw := t0.f
  have ok0 := ok
  obtain ⟨o1, o2, o3, o4, o5, o6, o7, o8, om, ok2, ol⟩ := ok
  have sm0 := tw_sm.rf T
  have J : ∀ (k : Int32) (H : Heap) (locs : List Loc) (ls : Array Slot), hp_Ws G B h s H locs → hp_L ls 3 [some (.ref x), some (.int r), some (.int n)] → k = tk_room r n → W p l e (hp_rm 3 0 0) s m ([.ref x, .int r, .int n] : List Value).toArray below meth cd H locs 0 0 Q (F0 m 27 ls [.int k, .ref x]) := by
    intro k H locs ls w hl hk
    refine ro_kI (cs_X3_93 X w tw.o (mt_X3_fails tw.1) rfl rfl hl ⟨⟨Nat.le_of_ble_eq_true rfl, Nat.le_of_ble_eq_true rfl⟩, Nat.le_of_ble_eq_true rfl, Nat.le_of_ble_eq_true rfl⟩ (Nat.le_of_ble_eq_true rfl) dX3_room_27) w (fun h H locs hp27 w => ?_)
    have tw := tw.tr hp27
    refine lv_if_eq (tgt := 35) X.1 X.2.1 dX3_room_30 (by decide) (fun c30 => ?_) (fun c30 => ?_)
    · have hk0 := tk3_0 hk c30
      have hK := hk.symm.trans hk0
      subst hk0
      have pr := isb_p3 (tk3_z hK).1
      refine ro_aload_n X hl dX3_room_35 rfl (by first | exact Or.inr ⟨_, rfl⟩ | exact Or.inl rfl | exact va_rf_or _) ?_
      refine gf_X3_19 X w dX3_room_36 tw.o rfl ?_
      refine ro_iload_n X hl dX3_room_39 rfl ?_
      refine ro_iload_n X hl dX3_room_40 rfl ?_
      refine tw_iast X w tw 5 (n := 4) rfl rfl dX3_room_41 pr.1 pr.2 (by decide) (fun h H locs w tw => ?_)
      refine ro_aload_n X hl dX3_room_42 rfl (by first | exact Or.inr ⟨_, rfl⟩ | exact Or.inl rfl | exact va_rf_or _) ?_
      refine ro_iload_n X hl dX3_room_43 rfl ?_
      refine ro_kJ (cs_X3_103 X w tw.o (mt_X3_today tw.1 (show tw_ok _ np nm se ns from ok0)) rfl rfl hl ⟨⟨Nat.le_of_ble_eq_true rfl, Nat.le_of_ble_eq_true rfl⟩, Nat.le_of_ble_eq_true rfl, Nat.le_of_ble_eq_true rfl⟩ (Nat.le_of_ble_eq_true rfl) dX3_room_44) w (fun H locs w => ?_)
      exact ro_retI X w hQ hlk dX3_room_47 hr rfl (Nat.le_of_ble_eq_true rfl) (Nat.le_of_ble_eq_true rfl) (tw_yes tw hK rfl (tw_td_eq (T := T) (U := tw_a (tw_s T 29 0) 5 (ix r) n) rfl rfl rfl r nm) (tw_sm.rf _))
    · have hKn := tk3_n hk c30
      refine lv_iconst (v := 0) X.1 X.2.1 dX3_room_33 (by decide) ?_
      exact ro_retI X w hQ hlk dX3_room_34 hr rfl (Nat.le_of_ble_eq_true rfl) (Nat.le_of_ble_eq_true rfl) (tw_no tw hk hKn)
  refine ro_aload_n X hl dX3_room_0 rfl (by first | exact Or.inr ⟨_, rfl⟩ | exact Or.inl rfl | exact va_rf_or _) ?_
  refine ro_iload_n X hl dX3_room_1 rfl ?_
  refine ro_kJ (cs_X3_100 X w mt_X3_isRegion rfl rfl hl ⟨⟨Nat.le_of_ble_eq_true rfl, Nat.le_of_ble_eq_true rfl⟩, Nat.le_of_ble_eq_true rfl, Nat.le_of_ble_eq_true rfl⟩ (Nat.le_of_ble_eq_true rfl) dX3_room_2) w (fun H locs w => ?_)
  refine lv_if_ne (tgt := 12) X.1 X.2.1 dX3_room_5 (by decide) (fun c5 => ?_) (fun c5 => ?_)
  · refine ro_iload_n X hl dX3_room_12 rfl ?_
    refine lv_iconst (v := 0) X.1 X.2.1 dX3_room_13 (by decide) ?_
    refine lv_bipush (v := 50) X.1 X.2.1 dX3_room_14 (by decide) ?_
    refine ro_kJ (cs_X3_86 X w mt_X3_isIn rfl rfl hl ⟨⟨Nat.le_of_ble_eq_true rfl, Nat.le_of_ble_eq_true rfl⟩, Nat.le_of_ble_eq_true rfl, Nat.le_of_ble_eq_true rfl⟩ (Nat.le_of_ble_eq_true rfl) dX3_room_16) w (fun H locs w => ?_)
    refine lv_if_eq (tgt := 26) X.1 X.2.1 dX3_room_19 (by decide) (fun c19 => ?_) (fun c19 => ?_)
    · refine lv_iconst (v := 2) X.1 X.2.1 dX3_room_26 (by decide) ?_
      exact J _ _ _ ls w (hl.mask [true, true, true]) (tk3_2 c5 c19)
    · refine lv_iconst (v := 0) X.1 X.2.1 dX3_room_22 (by decide) ?_
      refine lv_goto (tgt := 27) X.1 X.2.1 dX3_room_23 (by decide) ?_
      exact J _ _ _ ls w (hl.mask [true, true, true]) (tk3_4 c5 c19 id)
  · refine lv_iconst (v := 1) X.1 X.2.1 dX3_room_8 (by decide) ?_
    refine lv_goto (tgt := 27) X.1 X.2.1 dX3_room_9 (by decide) ?_
    exact J _ _ _ ls w (hl.mask [true, true, true]) (tk3_1 c5)
theorem mt_X3_match {l : Launch} {G : hp_G} {B : Nat} {h : hp_H} {x : Nat} {ad : Nat → Nat} {T : tw_T} {np nm se ns : Nat} {a b r : Int32} (t0 : TW G x ad T h) (ok : tw_ok T np nm se ns) : hp_M l G B yX3_match cX3_match 6 (some .int) 3 0 0 [.ref x, .int a, .int b, .int r] h (hp_E (tw_api G x ad h T (tk_match T nm a b r) (T.1 6 + 1 - 1) (tu_match (t9 T) nm a b r))) := by
  refine hp_M.of (by decide) 2 (List.forall_mem_cons.mpr ⟨rfl, (List.forall_mem_cons.mpr ⟨rfl, (List.forall_mem_cons.mpr ⟨rfl, (List.forall_mem_cons.mpr ⟨rfl, (fun _ h => absurd h List.not_mem_nil)⟩)⟩)⟩)⟩) (Nat.le_of_ble_eq_true rfl) ?_
  intro p e s m below meth cd Q ls X hr hlk hnm w hl hQ
  have hl : hp_L ls 6 [some (.ref x), some (.int a), some (.int b), some (.int r), none, none] := hl
  have tw := t0.f
  have ok0 := ok
  obtain ⟨o1, o2, o3, o4, o5, o6, o7, o8, om, ok2, ol⟩ := ok
  have sm0 := tw_sm.rf T
  have J : ∀ (k : Int32) (H : Heap) (locs : List Loc) (ls : Array Slot), hp_Ws G B h s H locs → hp_L ls 6 [some (.ref x), some (.int a), some (.int b), some (.int r), none, none] → k = tk_match T nm a b r → W p l e (hp_rm 3 0 0) s m ([.ref x, .int a, .int b, .int r] : List Value).toArray below meth cd H locs 0 0 Q (F0 m 110 ls [.int k, .ref x]) := by
    intro k H locs ls w hl hk
    refine ro_kI (cs_X3_93 X w tw.o (mt_X3_fails tw.1) rfl rfl hl ⟨⟨Nat.le_of_ble_eq_true rfl, Nat.le_of_ble_eq_true rfl⟩, Nat.le_of_ble_eq_true rfl, Nat.le_of_ble_eq_true rfl⟩ (Nat.le_of_ble_eq_true rfl) dX3_match_110) w (fun h H locs hp110 w => ?_)
    have tw := tw.tr hp110
    refine lv_if_eq (tgt := 118) X.1 X.2.1 dX3_match_113 (by decide) (fun c113 => ?_) (fun c113 => ?_)
    · have hk0 := tk3_0 hk c113
      have hK := hk.symm.trans hk0
      subst hk0
      obtain ⟨z1, z2, z3⟩ := tk3_z hK
      have z3 := (Decidable.not_not.mp z3).1
      have hnm : nm < 100 := by
        rw [o3, show (100 : Int32) = nI 100 from rfl] at z3
        exact (nI_ltI (by omega) (by omega)).mp z3
      refine ro_aload_n X hl dX3_match_118 rfl (by first | exact Or.inr ⟨_, rfl⟩ | exact Or.inl rfl | exact va_rf_or _) ?_
      refine gf_X3_22 X w dX3_match_119 tw.o rfl ?_
      refine ro_aload_n X hl dX3_match_122 rfl (by first | exact Or.inr ⟨_, rfl⟩ | exact Or.inl rfl | exact va_rf_or _) ?_
      refine gf_X3_97 X w dX3_match_123 tw.o rfl ?_
      refine ro_iload_n X hl dX3_match_126 rfl ?_
      refine tw_iast X w tw 7 (n := 100) rfl rfl dX3_match_127 o3 hnm (by decide) (fun h H locs w tw => ?_)
      refine ro_aload_n X hl dX3_match_128 rfl (by first | exact Or.inr ⟨_, rfl⟩ | exact Or.inl rfl | exact va_rf_or _) ?_
      refine gf_X3_25 X w dX3_match_129 tw.o rfl ?_
      refine ro_aload_n X hl dX3_match_132 rfl (by first | exact Or.inr ⟨_, rfl⟩ | exact Or.inl rfl | exact va_rf_or _) ?_
      refine gf_X3_97 X w dX3_match_133 tw.o rfl ?_
      refine ro_iload_n X hl dX3_match_136 rfl ?_
      refine tw_iast X w tw 8 (n := 100) rfl rfl dX3_match_137 o3 hnm (by decide) (fun h H locs w tw => ?_)
      refine ro_aload_n X hl dX3_match_138 rfl (by first | exact Or.inr ⟨_, rfl⟩ | exact Or.inl rfl | exact va_rf_or _) ?_
      refine gf_X3_28 X w dX3_match_139 tw.o rfl ?_
      refine ro_aload_n X hl dX3_match_142 rfl (by first | exact Or.inr ⟨_, rfl⟩ | exact Or.inl rfl | exact va_rf_or _) ?_
      refine gf_X3_97 X w dX3_match_143 tw.o rfl ?_
      refine ro_iload_n X hl dX3_match_146 rfl ?_
      refine tw_iast X w tw 9 (n := 100) rfl rfl dX3_match_147 o3 hnm (by decide) (fun h H locs w tw => ?_)
      refine ro_aload_n X hl dX3_match_148 rfl (by first | exact Or.inr ⟨_, rfl⟩ | exact Or.inl rfl | exact va_rf_or _) ?_
      refine gf_X3_31 X w dX3_match_149 tw.o rfl ?_
      refine ro_aload_n X hl dX3_match_152 rfl (by first | exact Or.inr ⟨_, rfl⟩ | exact Or.inl rfl | exact va_rf_or _) ?_
      refine gf_X3_97 X w dX3_match_153 tw.o rfl ?_
      refine ro_aload_n X hl dX3_match_156 rfl (by first | exact Or.inr ⟨_, rfl⟩ | exact Or.inl rfl | exact va_rf_or _) ?_
      refine gf_X3_90 X w dX3_match_157 tw.o rfl ?_
      refine tw_iast X w tw 10 (n := 100) rfl rfl dX3_match_160 o3 hnm (by decide) (fun h H locs w tw => ?_)
      refine ro_aload_n X hl dX3_match_161 rfl (by first | exact Or.inr ⟨_, rfl⟩ | exact Or.inl rfl | exact va_rf_or _) ?_
      refine gf_X3_34 X w dX3_match_162 tw.o rfl ?_
      refine ro_aload_n X hl dX3_match_165 rfl (by first | exact Or.inr ⟨_, rfl⟩ | exact Or.inl rfl | exact va_rf_or _) ?_
      refine gf_X3_97 X w dX3_match_166 tw.o rfl ?_
      refine ro_aload_n X hl dX3_match_169 rfl (by first | exact Or.inr ⟨_, rfl⟩ | exact Or.inl rfl | exact va_rf_or _) ?_
      refine gf_X3_113 X w dX3_match_170 tw.o rfl ?_
      refine tw_iast X w tw 11 (n := 100) rfl rfl dX3_match_173 o3 hnm (by decide) (fun h H locs w tw => ?_)
      refine ro_aload_n X hl dX3_match_174 rfl (by first | exact Or.inr ⟨_, rfl⟩ | exact Or.inl rfl | exact va_rf_or _) ?_
      refine lv_dup X.1 X.2.1 dX3_match_175 rfl ?_
      refine gf_X3_97 X w dX3_match_176 tw.o rfl ?_
      refine lv_iconst (v := 1) X.1 X.2.1 dX3_match_179 (by decide) ?_
      refine lv_iadd X.1 X.2.1 dX3_match_180 ?_
      refine tp_X3_97 X w tw dX3_match_181 (fun h H locs w tw => ?_)
      refine ro_aload_n X hl dX3_match_184 rfl (by first | exact Or.inr ⟨_, rfl⟩ | exact Or.inl rfl | exact va_rf_or _) ?_
      refine gf_X3_97 X w dX3_match_185 tw.o rfl ?_
      refine lv_iconst (v := 1) X.1 X.2.1 dX3_match_188 (by decide) ?_
      refine lv_isub X.1 X.2.1 dX3_match_189 ?_
      exact ro_retI X w hQ hlk dX3_match_190 hr rfl (Nat.le_of_ble_eq_true rfl) (Nat.le_of_ble_eq_true rfl) (tw_yes tw hK rfl rfl (tw_sm.rf _))
    · have hKn := tk3_n hk c113
      refine lv_iconst (v := 0) X.1 X.2.1 dX3_match_116 (by decide) ?_
      exact ro_retI X w hQ hlk dX3_match_117 hr rfl (Nat.le_of_ble_eq_true rfl) (Nat.le_of_ble_eq_true rfl) (tw_no tw hk hKn)
  have J2 : ∀ (v : Int32) (H : Heap) (locs : List Loc) (ls : Array Slot), hp_Ws G B h s H locs → hp_L ls 6 [some (.ref x), some (.int a), some (.int b), some (.int r), some (.int (bz (tIs_match T a b r))), none] → (tIs_match T a b r → v = bz (tCan_match T nm a b r)) → W p l e (hp_rm 3 0 0) s m ([.ref x, .int a, .int b, .int r] : List Value).toArray below meth cd H locs 0 0 Q (F0 m 79 ls [.int v]) := by
    intro v H locs ls w hl hv
    refine ro_istore X hl dX3_match_79 (by decide) (fun ls hl => ?_)
    refine ro_aload_n X hl dX3_match_81 rfl (by first | exact Or.inr ⟨_, rfl⟩ | exact Or.inl rfl | exact va_rf_or _) ?_
    refine ro_iload X hl dX3_match_82 rfl ?_
    refine lv_if_ne (tgt := 91) X.1 X.2.1 dX3_match_84 (by decide) (fun c84 => ?_) (fun c84 => ?_)
    · refine ro_iload_n X hl dX3_match_91 rfl ?_
      refine ro_iload_n X hl dX3_match_92 rfl ?_
      refine lv_icmp_ne (tgt := 100) X.1 X.2.1 dX3_match_93 (by decide) (fun c93 => ?_) (fun c93 => ?_)
      · refine ro_iload X hl dX3_match_100 rfl ?_
        refine lv_if_eq (tgt := 109) X.1 X.2.1 dX3_match_102 (by decide) (fun c102 => ?_) (fun c102 => ?_)
        · refine lv_iconst (v := 3) X.1 X.2.1 dX3_match_109 (by decide) ?_
          exact J _ _ _ ls w (hl.mask [true, true, true, true, false, false]) (tk3_3 (fun q => q (bz1 c84)) c93 (bz0 ((hv (bz1 c84)).symm.trans c102)))
        · refine lv_iconst (v := 0) X.1 X.2.1 dX3_match_105 (by decide) ?_
          refine lv_goto (tgt := 110) X.1 X.2.1 dX3_match_106 (by decide) ?_
          exact J _ _ _ ls w (hl.mask [true, true, true, true, false, false]) (tk3_4 (fun q => q (bz1 c84)) c93 (fun q => q (bz1 (by rw [← hv (bz1 c84)]; exact c102))))
      · refine lv_iconst (v := 2) X.1 X.2.1 dX3_match_96 (by decide) ?_
        refine lv_goto (tgt := 110) X.1 X.2.1 dX3_match_97 (by decide) ?_
        exact J _ _ _ ls w (hl.mask [true, true, true, true, false, false]) (tk3_2 (fun q => q (bz1 c84)) c93)
    · refine lv_iconst (v := 1) X.1 X.2.1 dX3_match_87 (by decide) ?_
      refine lv_goto (tgt := 110) X.1 X.2.1 dX3_match_88 (by decide) ?_
      exact J _ _ _ ls w (hl.mask [true, true, true, true, false, false]) (tk3_1 (bz0 c84))
  have J1 : ∀ (v : Int32) (H : Heap) (locs : List Loc) (ls : Array Slot), hp_Ws G B h s H locs → hp_L ls 6 [some (.ref x), some (.int a), some (.int b), some (.int r), none, none] → v = bz (tIs_match T a b r) → W p l e (hp_rm 3 0 0) s m ([.ref x, .int a, .int b, .int r] : List Value).toArray below meth cd H locs 0 0 Q (F0 m 28 ls [.int v]) := by
    intro v H locs ls w hl hv
    subst hv
    refine ro_istore X hl dX3_match_28 (by decide) (fun ls hl => ?_)
    refine ro_iload X hl dX3_match_30 rfl ?_
    refine lv_if_eq (tgt := 78) X.1 X.2.1 dX3_match_32 (by decide) (fun c32 => ?_) (fun c32 => ?_)
    · refine lv_iconst (v := 0) X.1 X.2.1 dX3_match_78 (by decide) ?_
      exact J2 _ _ _ ls w (hl.mask [true, true, true, true, true, false]) (fun q => absurd q (bz0 c32))
    · obtain ⟨i1, i2, i3⟩ := bz1 c32
      have pa := isb_px o1 (by omega) i1
      have pb := isb_px o1 (by omega) i2
      have pr := isb_p3 i3
      refine ro_aload_n X hl dX3_match_35 rfl (by first | exact Or.inr ⟨_, rfl⟩ | exact Or.inl rfl | exact va_rf_or _) ?_
      refine gf_X3_97 X w dX3_match_36 tw.o rfl ?_
      refine lv_bipush (v := 100) X.1 X.2.1 dX3_match_39 (by decide) ?_
      refine lv_icmp_ge (tgt := 78) X.1 X.2.1 dX3_match_41 (by decide) (fun c41 => ?_) (fun c41 => ?_)
      · refine lv_iconst (v := 0) X.1 X.2.1 dX3_match_78 (by decide) ?_
        exact J2 _ _ _ ls w (hl.mask [true, true, true, true, true, false]) (fun _ => (bz_f (fun q => absurd q.1 (Int32.not_lt.mpr c41))).symm)
      · refine ro_aload_n X hl dX3_match_44 rfl (by first | exact Or.inr ⟨_, rfl⟩ | exact Or.inl rfl | exact va_rf_or _) ?_
        refine ro_iload_n X hl dX3_match_45 rfl ?_
        refine ro_kJ (cs_X3_110 X w tw.o (mt_X3_isBanned tw.1 (pa.le (by omega))) rfl rfl hl ⟨⟨Nat.le_of_ble_eq_true rfl, Nat.le_of_ble_eq_true rfl⟩, Nat.le_of_ble_eq_true rfl, Nat.le_of_ble_eq_true rfl⟩ (Nat.le_of_ble_eq_true rfl) dX3_match_46) w (fun H locs w => ?_)
        refine lv_if_ne (tgt := 78) X.1 X.2.1 dX3_match_49 (by decide) (fun c49 => ?_) (fun c49 => ?_)
        · refine lv_iconst (v := 0) X.1 X.2.1 dX3_match_78 (by decide) ?_
          exact J2 _ _ _ ls w (hl.mask [true, true, true, true, true, false]) (fun _ => (bz_f (fun q => c49 q.2.1)).symm)
        · refine ro_aload_n X hl dX3_match_52 rfl (by first | exact Or.inr ⟨_, rfl⟩ | exact Or.inl rfl | exact va_rf_or _) ?_
          refine ro_iload_n X hl dX3_match_53 rfl ?_
          refine ro_kJ (cs_X3_110 X w tw.o (mt_X3_isBanned tw.1 (pb.le (by omega))) rfl rfl hl ⟨⟨Nat.le_of_ble_eq_true rfl, Nat.le_of_ble_eq_true rfl⟩, Nat.le_of_ble_eq_true rfl, Nat.le_of_ble_eq_true rfl⟩ (Nat.le_of_ble_eq_true rfl) dX3_match_54) w (fun H locs w => ?_)
          refine lv_if_ne (tgt := 78) X.1 X.2.1 dX3_match_57 (by decide) (fun c57 => ?_) (fun c57 => ?_)
          · refine lv_iconst (v := 0) X.1 X.2.1 dX3_match_78 (by decide) ?_
            exact J2 _ _ _ ls w (hl.mask [true, true, true, true, true, false]) (fun _ => (bz_f (fun q => c57 q.2.2.1)).symm)
          · refine ro_aload_n X hl dX3_match_60 rfl (by first | exact Or.inr ⟨_, rfl⟩ | exact Or.inl rfl | exact va_rf_or _) ?_
            refine ro_iload_n X hl dX3_match_61 rfl ?_
            refine ro_kJ (cs_X3_103 X w tw.o (mt_X3_today tw.1 ok0) rfl rfl hl ⟨⟨Nat.le_of_ble_eq_true rfl, Nat.le_of_ble_eq_true rfl⟩, Nat.le_of_ble_eq_true rfl, Nat.le_of_ble_eq_true rfl⟩ (Nat.le_of_ble_eq_true rfl) dX3_match_62) w (fun H locs w => ?_)
            refine ro_aload_n X hl dX3_match_65 rfl (by first | exact Or.inr ⟨_, rfl⟩ | exact Or.inl rfl | exact va_rf_or _) ?_
            refine gf_X3_19 X w dX3_match_66 tw.o rfl ?_
            refine ro_iload_n X hl dX3_match_69 rfl ?_
            refine ro_ialdE X w dX3_match_70 (tw.ar 5 (n := 4) rfl rfl) pr.1 pr.2 (by decide) ?_
            refine lv_icmp_ge (tgt := 78) X.1 X.2.1 dX3_match_71 (by decide) (fun c71 => ?_) (fun c71 => ?_)
            · refine lv_iconst (v := 0) X.1 X.2.1 dX3_match_78 (by decide) ?_
              exact J2 _ _ _ ls w (hl.mask [true, true, true, true, true, false]) (fun _ => (bz_f (fun q => absurd q.2.2.2 (Int32.not_lt.mpr c71))).symm)
            · refine lv_iconst (v := 1) X.1 X.2.1 dX3_match_74 (by decide) ?_
              refine lv_goto (tgt := 79) X.1 X.2.1 dX3_match_75 (by decide) ?_
              exact J2 _ _ _ ls w (hl.mask [true, true, true, true, true, false]) (fun _ => (bz_t ⟨Int32.not_le.mp c41, c49, c57, Int32.not_le.mp c71⟩).symm)
  refine ro_aload_n X hl dX3_match_0 rfl (by first | exact Or.inr ⟨_, rfl⟩ | exact Or.inl rfl | exact va_rf_or _) ?_
  refine ro_iload_n X hl dX3_match_1 rfl ?_
  refine ro_kJ (cs_X3_107 X w tw.o (mt_X3_isPlayer tw.1) rfl rfl hl ⟨⟨Nat.le_of_ble_eq_true rfl, Nat.le_of_ble_eq_true rfl⟩, Nat.le_of_ble_eq_true rfl, Nat.le_of_ble_eq_true rfl⟩ (Nat.le_of_ble_eq_true rfl) dX3_match_2) w (fun H locs w => ?_)
  refine lv_if_eq (tgt := 27) X.1 X.2.1 dX3_match_5 (by decide) (fun c5 => ?_) (fun c5 => ?_)
  · refine lv_iconst (v := 0) X.1 X.2.1 dX3_match_27 (by decide) ?_
    exact J1 _ _ _ ls w hl (bz_f (fun q => q.1 c5)).symm
  · refine ro_aload_n X hl dX3_match_8 rfl (by first | exact Or.inr ⟨_, rfl⟩ | exact Or.inl rfl | exact va_rf_or _) ?_
    refine ro_iload_n X hl dX3_match_9 rfl ?_
    refine ro_kJ (cs_X3_107 X w tw.o (mt_X3_isPlayer tw.1) rfl rfl hl ⟨⟨Nat.le_of_ble_eq_true rfl, Nat.le_of_ble_eq_true rfl⟩, Nat.le_of_ble_eq_true rfl, Nat.le_of_ble_eq_true rfl⟩ (Nat.le_of_ble_eq_true rfl) dX3_match_10) w (fun H locs w => ?_)
    refine lv_if_eq (tgt := 27) X.1 X.2.1 dX3_match_13 (by decide) (fun c13 => ?_) (fun c13 => ?_)
    · refine lv_iconst (v := 0) X.1 X.2.1 dX3_match_27 (by decide) ?_
      exact J1 _ _ _ ls w hl (bz_f (fun q => q.2.1 c13)).symm
    · refine ro_iload_n X hl dX3_match_16 rfl ?_
      refine ro_kJ (cs_X3_100 X w mt_X3_isRegion rfl rfl hl ⟨⟨Nat.le_of_ble_eq_true rfl, Nat.le_of_ble_eq_true rfl⟩, Nat.le_of_ble_eq_true rfl, Nat.le_of_ble_eq_true rfl⟩ (Nat.le_of_ble_eq_true rfl) dX3_match_17) w (fun H locs w => ?_)
      refine lv_if_eq (tgt := 27) X.1 X.2.1 dX3_match_20 (by decide) (fun c20 => ?_) (fun c20 => ?_)
      · refine lv_iconst (v := 0) X.1 X.2.1 dX3_match_27 (by decide) ?_
        exact J1 _ _ _ ls w hl (bz_f (fun q => q.2.2 c20)).symm
      · refine lv_iconst (v := 1) X.1 X.2.1 dX3_match_23 (by decide) ?_
        refine lv_goto (tgt := 28) X.1 X.2.1 dX3_match_24 (by decide) ?_
        exact J1 _ _ _ ls w hl (bz_t ⟨c5, c13, c20⟩).symm
theorem mt_X3_ban {l : Launch} {G : hp_G} {B : Nat} {h : hp_H} {x : Nat} {ad : Nat → Nat} {T : tw_T} {np nm se ns : Nat} {q n : Int32} (t0 : TW G x ad T h) (ok : tw_ok T np nm se ns) : hp_M l G B yX3_ban cX3_ban 3 (some .int) 3 0 0 [.ref x, .int q, .int n] h (hp_E (tw_api G x ad h T (tk_ban T q n) (T.1 0 + n) (tu_ban (t9 T) q n))) := by
  refine hp_M.of (by decide) 0 (List.forall_mem_cons.mpr ⟨rfl, (List.forall_mem_cons.mpr ⟨rfl, (List.forall_mem_cons.mpr ⟨rfl, (fun _ h => absurd h List.not_mem_nil)⟩)⟩)⟩) (Nat.le_of_ble_eq_true rfl) ?_
  intro p e s m below meth cd Q ls X hr hlk hnm w hl hQ
  have hl : hp_L ls 3 [some (.ref x), some (.int q), some (.int n)] := hl
  have tw := t0.f
  have ok0 := ok
  obtain ⟨o1, o2, o3, o4, o5, o6, o7, o8, om, ok2, ol⟩ := ok
  have sm0 := tw_sm.rf T
  have J : ∀ (k : Int32) (H : Heap) (locs : List Loc) (ls : Array Slot), hp_Ws G B h s H locs → hp_L ls 3 [some (.ref x), some (.int q), some (.int n)] → k = tk_ban T q n → W p l e (hp_rm 3 0 0) s m ([.ref x, .int q, .int n] : List Value).toArray below meth cd H locs 0 0 Q (F0 m 29 ls [.int k, .ref x]) := by
    intro k H locs ls w hl hk
    refine ro_kI (cs_X3_93 X w tw.o (mt_X3_fails tw.1) rfl rfl hl ⟨⟨Nat.le_of_ble_eq_true rfl, Nat.le_of_ble_eq_true rfl⟩, Nat.le_of_ble_eq_true rfl, Nat.le_of_ble_eq_true rfl⟩ (Nat.le_of_ble_eq_true rfl) dX3_ban_29) w (fun h H locs hp29 w => ?_)
    have tw := tw.tr hp29
    refine lv_if_eq (tgt := 37) X.1 X.2.1 dX3_ban_32 (by decide) (fun c32 => ?_) (fun c32 => ?_)
    · have hk0 := tk3_0 hk c32
      have hK := hk.symm.trans hk0
      subst hk0
      have pq := isb_px o1 (by omega) (tk3_z hK).1
      have pq2 := pq.2
      refine ro_aload_n X hl dX3_ban_37 rfl (by first | exact Or.inr ⟨_, rfl⟩ | exact Or.inl rfl | exact va_rf_or _) ?_
      refine gf_X3_13 X w dX3_ban_38 tw.o rfl ?_
      refine ro_iload_n X hl dX3_ban_41 rfl ?_
      refine ro_aload_n X hl dX3_ban_42 rfl (by first | exact Or.inr ⟨_, rfl⟩ | exact Or.inl rfl | exact va_rf_or _) ?_
      refine gf_X3_90 X w dX3_ban_43 tw.o rfl ?_
      refine ro_iload_n X hl dX3_ban_46 rfl ?_
      refine lv_iadd X.1 X.2.1 dX3_ban_47 ?_
      refine tw_iast X w tw 3 (n := 16) rfl rfl dX3_ban_48 pq.1 (by omega) (by decide) (fun h H locs w tw => ?_)
      refine ro_aload_n X hl dX3_ban_49 rfl (by first | exact Or.inr ⟨_, rfl⟩ | exact Or.inl rfl | exact va_rf_or _) ?_
      refine gf_X3_13 X w dX3_ban_50 tw.o rfl ?_
      refine ro_iload_n X hl dX3_ban_53 rfl ?_
      refine ro_ialdE X w dX3_ban_54 (tw.ar 3 (n := 16) rfl rfl) pq.1 (by omega) (by decide) ?_
      exact ro_retI X w hQ hlk dX3_ban_55 hr rfl (Nat.le_of_ble_eq_true rfl) (Nat.le_of_ble_eq_true rfl) (tw_yes tw hK rfl (upd_s _ _ _) (tw_sm.rf _))
    · have hKn := tk3_n hk c32
      refine lv_iconst (v := 0) X.1 X.2.1 dX3_ban_35 (by decide) ?_
      exact ro_retI X w hQ hlk dX3_ban_36 hr rfl (Nat.le_of_ble_eq_true rfl) (Nat.le_of_ble_eq_true rfl) (tw_no tw hk hKn)
  refine ro_aload_n X hl dX3_ban_0 rfl (by first | exact Or.inr ⟨_, rfl⟩ | exact Or.inl rfl | exact va_rf_or _) ?_
  refine ro_aload_n X hl dX3_ban_1 rfl (by first | exact Or.inr ⟨_, rfl⟩ | exact Or.inl rfl | exact va_rf_or _) ?_
  refine ro_iload_n X hl dX3_ban_2 rfl ?_
  refine ro_kJ (cs_X3_107 X w tw.o (mt_X3_isPlayer tw.1) rfl rfl hl ⟨⟨Nat.le_of_ble_eq_true rfl, Nat.le_of_ble_eq_true rfl⟩, Nat.le_of_ble_eq_true rfl, Nat.le_of_ble_eq_true rfl⟩ (Nat.le_of_ble_eq_true rfl) dX3_ban_3) w (fun H locs w => ?_)
  refine lv_if_ne (tgt := 13) X.1 X.2.1 dX3_ban_6 (by decide) (fun c6 => ?_) (fun c6 => ?_)
  · refine ro_iload_n X hl dX3_ban_13 rfl ?_
    refine lv_iconst (v := 0) X.1 X.2.1 dX3_ban_14 (by decide) ?_
    refine lv_sipush (v := 1000) X.1 X.2.1 dX3_ban_15 (by decide) ?_
    refine ro_kJ (cs_X3_86 X w mt_X3_isIn rfl rfl hl ⟨⟨Nat.le_of_ble_eq_true rfl, Nat.le_of_ble_eq_true rfl⟩, Nat.le_of_ble_eq_true rfl, Nat.le_of_ble_eq_true rfl⟩ (Nat.le_of_ble_eq_true rfl) dX3_ban_18) w (fun H locs w => ?_)
    refine lv_if_eq (tgt := 28) X.1 X.2.1 dX3_ban_21 (by decide) (fun c21 => ?_) (fun c21 => ?_)
    · refine lv_iconst (v := 2) X.1 X.2.1 dX3_ban_28 (by decide) ?_
      exact J _ _ _ ls w (hl.mask [true, true, true]) (tk3_2 c6 c21)
    · refine lv_iconst (v := 0) X.1 X.2.1 dX3_ban_24 (by decide) ?_
      refine lv_goto (tgt := 29) X.1 X.2.1 dX3_ban_25 (by decide) ?_
      exact J _ _ _ ls w (hl.mask [true, true, true]) (tk3_4 c6 c21 id)
  · refine lv_iconst (v := 1) X.1 X.2.1 dX3_ban_9 (by decide) ?_
    refine lv_goto (tgt := 29) X.1 X.2.1 dX3_ban_10 (by decide) ?_
    exact J _ _ _ ls w (hl.mask [true, true, true]) (tk3_1 c6)
theorem mt_X3_money {l : Launch} {G : hp_G} {B : Nat} {h : hp_H} {x : Nat} {ad : Nat → Nat} {T : tw_T} {np nm se ns : Nat} {q : Int32} (t0 : TW G x ad T h) (ok : tw_ok T np nm se ns) : hp_M l G B yX3_money cX3_money 2 (some .int) 3 0 0 [.ref x, .int q] h (hp_E (tw_api G x ad h T (tk_money T q) (T.2 4 (ix q)) (t9 T))) := by
  refine hp_M.of (by decide) 0 (List.forall_mem_cons.mpr ⟨rfl, (List.forall_mem_cons.mpr ⟨rfl, (fun _ h => absurd h List.not_mem_nil)⟩)⟩) (Nat.le_of_ble_eq_true rfl) ?_
  intro p e s m below meth cd Q ls X hr hlk hnm w hl hQ
  have hl : hp_L ls 2 [some (.ref x), some (.int q)] := hl
  have tw := t0.f
  have ok0 := ok
  obtain ⟨o1, o2, o3, o4, o5, o6, o7, o8, om, ok2, ol⟩ := ok
  have sm0 := tw_sm.rf T
  have J : ∀ (k : Int32) (H : Heap) (locs : List Loc) (ls : Array Slot), hp_Ws G B h s H locs → hp_L ls 2 [some (.ref x), some (.int q)] → k = tk_money T q → W p l e (hp_rm 3 0 0) s m ([.ref x, .int q] : List Value).toArray below meth cd H locs 0 0 Q (F0 m 14 ls [.int k, .ref x]) := by
    intro k H locs ls w hl hk
    refine ro_kI (cs_X3_93 X w tw.o (mt_X3_fails tw.1) rfl rfl hl ⟨⟨Nat.le_of_ble_eq_true rfl, Nat.le_of_ble_eq_true rfl⟩, Nat.le_of_ble_eq_true rfl, Nat.le_of_ble_eq_true rfl⟩ (Nat.le_of_ble_eq_true rfl) dX3_money_14) w (fun h H locs hp14 w => ?_)
    have tw := tw.tr hp14
    refine lv_if_eq (tgt := 24) X.1 X.2.1 dX3_money_17 (by decide) (fun c17 => ?_) (fun c17 => ?_)
    · have hk0 := tk3_0 hk c17
      have hK := hk.symm.trans hk0
      subst hk0
      have pq := isb_px o1 (by omega) (tk3_z hK).1
      have pq2 := pq.2
      refine ro_aload_n X hl dX3_money_24 rfl (by first | exact Or.inr ⟨_, rfl⟩ | exact Or.inl rfl | exact va_rf_or _) ?_
      refine gf_X3_16 X w dX3_money_25 tw.o rfl ?_
      refine ro_iload_n X hl dX3_money_28 rfl ?_
      refine ro_ialdE X w dX3_money_29 (tw.ar 4 (n := 16) rfl rfl) pq.1 (by omega) (by decide) ?_
      exact ro_retI X w hQ hlk dX3_money_30 hr rfl (Nat.le_of_ble_eq_true rfl) (Nat.le_of_ble_eq_true rfl) (by first | exact tw_no tw hk hKn | exact tw_yes tw hK rfl rfl (tw_sm.rf _))
    · have hKn := tk3_n hk c17
      refine lv_iconst (v := 0) X.1 X.2.1 dX3_money_20 (by decide) ?_
      refine lv_goto (tgt := 30) X.1 X.2.1 dX3_money_21 (by decide) ?_
      exact ro_retI X w hQ hlk dX3_money_30 hr rfl (Nat.le_of_ble_eq_true rfl) (Nat.le_of_ble_eq_true rfl) (by first | exact tw_no tw hk hKn | exact tw_yes tw hK rfl rfl (tw_sm.rf _))
  refine ro_aload_n X hl dX3_money_0 rfl (by first | exact Or.inr ⟨_, rfl⟩ | exact Or.inl rfl | exact va_rf_or _) ?_
  refine ro_aload_n X hl dX3_money_1 rfl (by first | exact Or.inr ⟨_, rfl⟩ | exact Or.inl rfl | exact va_rf_or _) ?_
  refine ro_iload_n X hl dX3_money_2 rfl ?_
  refine ro_kJ (cs_X3_107 X w tw.o (mt_X3_isPlayer tw.1) rfl rfl hl ⟨⟨Nat.le_of_ble_eq_true rfl, Nat.le_of_ble_eq_true rfl⟩, Nat.le_of_ble_eq_true rfl, Nat.le_of_ble_eq_true rfl⟩ (Nat.le_of_ble_eq_true rfl) dX3_money_3) w (fun H locs w => ?_)
  refine lv_if_eq (tgt := 13) X.1 X.2.1 dX3_money_6 (by decide) (fun c6 => ?_) (fun c6 => ?_)
  · refine lv_iconst (v := 1) X.1 X.2.1 dX3_money_13 (by decide) ?_
    exact J _ _ _ ls w (hl.mask [true, true]) (tk3_1 c6)
  · refine lv_iconst (v := 0) X.1 X.2.1 dX3_money_9 (by decide) ?_
    refine lv_goto (tgt := 14) X.1 X.2.1 dX3_money_10 (by decide) ?_
    exact J _ _ _ ls w (hl.mask [true, true]) (tk3_4 c6 id id)
theorem mt_X3_stands {l : Launch} {G : hp_G} {B : Nat} {h : hp_H} {x : Nat} {ad : Nat → Nat} {T : tw_T} {np nm se ns : Nat} {v : Int32} (t0 : TW G x ad T h) (ok : tw_ok T np nm se ns) : hp_M l G B yX3_stands cX3_stands 2 (some .boolean) 3 0 0 [.ref x, .int v] h (hp_E (tw_api G x ad h T (tk_stands T v) (tw_gd T (ix v)) (t9 T))) := by
  refine hp_M.of (by decide) 0 (List.forall_mem_cons.mpr ⟨rfl, (List.forall_mem_cons.mpr ⟨rfl, (fun _ h => absurd h List.not_mem_nil)⟩)⟩) (Nat.le_of_ble_eq_true rfl) ?_
  intro p e s m below meth cd Q ls X hr hlk hnm w hl hQ
  have hl : hp_L ls 2 [some (.ref x), some (.int v)] := hl
  have tw := t0.f
  have ok0 := ok
  obtain ⟨o1, o2, o3, o4, o5, o6, o7, o8, om, ok2, ol⟩ := ok
  have sm0 := tw_sm.rf T
  have J : ∀ (k : Int32) (H : Heap) (locs : List Loc) (ls : Array Slot), hp_Ws G B h s H locs → hp_L ls 2 [some (.ref x), some (.int v)] → k = tk_stands T v → W p l e (hp_rm 3 0 0) s m ([.ref x, .int v] : List Value).toArray below meth cd H locs 0 0 Q (F0 m 20 ls [.int k, .ref x]) := by
    intro k H locs ls w hl hk
    refine ro_kI (cs_X3_93 X w tw.o (mt_X3_fails tw.1) rfl rfl hl ⟨⟨Nat.le_of_ble_eq_true rfl, Nat.le_of_ble_eq_true rfl⟩, Nat.le_of_ble_eq_true rfl, Nat.le_of_ble_eq_true rfl⟩ (Nat.le_of_ble_eq_true rfl) dX3_stands_20) w (fun h H locs hp20 w => ?_)
    have tw := tw.tr hp20
    refine lv_if_ne (tgt := 38) X.1 X.2.1 dX3_stands_23 (by decide) (fun c23 => ?_) (fun c23 => ?_)
    · have hKn := tk3_n hk c23
      refine lv_iconst (v := 0) X.1 X.2.1 dX3_stands_38 (by decide) ?_
      exact ro_retI X w hQ hlk dX3_stands_39 hr rfl (Nat.le_of_ble_eq_true rfl) (Nat.le_of_ble_eq_true rfl) (by first | exact tw_no tw hk hKn | exact tw_yes tw hK rfl (by first | exact ((bz_01 _).resolve_left c31).symm | exact c31.symm) (tw_sm.rf _))
    · have hk0 := tk3_0 hk c23
      have hK := hk.symm.trans hk0
      subst hk0
      have pv := isb_px o3 (by omega) (tk3_z hK).1
      have pv2 := pv.2
      refine ro_aload_n X hl dX3_stands_26 rfl (by first | exact Or.inr ⟨_, rfl⟩ | exact Or.inl rfl | exact va_rf_or _) ?_
      refine ro_iload_n X hl dX3_stands_27 rfl ?_
      refine ro_kJ (cs_X3_116 X w tw.o (mt_X3_isGood tw.1 (show tw_ok _ np nm se ns from ok0) (j := ix v) pv2) rfl (by rw [← pv.1]; rfl) hl ⟨⟨Nat.le_of_ble_eq_true rfl, Nat.le_of_ble_eq_true rfl⟩, Nat.le_of_ble_eq_true rfl, Nat.le_of_ble_eq_true rfl⟩ (Nat.le_of_ble_eq_true rfl) dX3_stands_28) w (fun H locs w => ?_)
      refine lv_if_eq (tgt := 38) X.1 X.2.1 dX3_stands_31 (by decide) (fun c31 => ?_) (fun c31 => ?_)
      · refine lv_iconst (v := 0) X.1 X.2.1 dX3_stands_38 (by decide) ?_
        exact ro_retI X w hQ hlk dX3_stands_39 hr rfl (Nat.le_of_ble_eq_true rfl) (Nat.le_of_ble_eq_true rfl) (by first | exact tw_no tw hk hKn | exact tw_yes tw hK rfl (by first | exact ((bz_01 _).resolve_left c31).symm | exact c31.symm) (tw_sm.rf _))
      · refine lv_iconst (v := 1) X.1 X.2.1 dX3_stands_34 (by decide) ?_
        refine lv_goto (tgt := 39) X.1 X.2.1 dX3_stands_35 (by decide) ?_
        exact ro_retI X w hQ hlk dX3_stands_39 hr rfl (Nat.le_of_ble_eq_true rfl) (Nat.le_of_ble_eq_true rfl) (by first | exact tw_no tw hk hKn | exact tw_yes tw hK rfl (by first | exact ((bz_01 _).resolve_left c31).symm | exact c31.symm) (tw_sm.rf _))
  refine ro_aload_n X hl dX3_stands_0 rfl (by first | exact Or.inr ⟨_, rfl⟩ | exact Or.inl rfl | exact va_rf_or _) ?_
  refine ro_iload_n X hl dX3_stands_1 rfl ?_
  refine lv_iconst (v := 0) X.1 X.2.1 dX3_stands_2 (by decide) ?_
  refine ro_aload_n X hl dX3_stands_3 rfl (by first | exact Or.inr ⟨_, rfl⟩ | exact Or.inl rfl | exact va_rf_or _) ?_
  refine gf_X3_97 X w dX3_stands_4 tw.o rfl ?_
  refine lv_iconst (v := 1) X.1 X.2.1 dX3_stands_7 (by decide) ?_
  refine lv_isub X.1 X.2.1 dX3_stands_8 ?_
  refine ro_kJ (cs_X3_86 X w mt_X3_isIn rfl rfl hl ⟨⟨Nat.le_of_ble_eq_true rfl, Nat.le_of_ble_eq_true rfl⟩, Nat.le_of_ble_eq_true rfl, Nat.le_of_ble_eq_true rfl⟩ (Nat.le_of_ble_eq_true rfl) dX3_stands_9) w (fun H locs w => ?_)
  refine lv_if_eq (tgt := 19) X.1 X.2.1 dX3_stands_12 (by decide) (fun c12 => ?_) (fun c12 => ?_)
  · refine lv_iconst (v := 1) X.1 X.2.1 dX3_stands_19 (by decide) ?_
    exact J _ _ _ ls w (hl.mask [true, true]) (tk3_1 c12)
  · refine lv_iconst (v := 0) X.1 X.2.1 dX3_stands_15 (by decide) ?_
    refine lv_goto (tgt := 20) X.1 X.2.1 dX3_stands_16 (by decide) ?_
    exact J _ _ _ ls w (hl.mask [true, true]) (tk3_4 c12 id id)
theorem mt_X3_user {l : Launch} {G : hp_G} {B : Nat} {h : hp_H} {x : Nat} {ad : Nat → Nat} {T : tw_T} {k : Nat} (t0 : TW G x ad T h) (hk : k < 36) : hp_M l G B yX3_user cX3_user 2 (some .int) 1 0 0 [.ref x, .int (nI k)] h (hp_J h (.int (tv_user T k))) := by
  refine hp_M.of (by decide) 0 (List.forall_mem_cons.mpr ⟨rfl, (List.forall_mem_cons.mpr ⟨rfl, (fun _ h => absurd h List.not_mem_nil)⟩)⟩) (Nat.le_of_ble_eq_true rfl) ?_
  intro p e s m below meth cd Q ls X hr hlk hnm w hl hQ
  have hl : hp_L ls 2 [some (.ref x), some (.int (nI k))] := hl
  have tw := t0.f
  refine ro_aload_n X hl dX3_user_0 rfl (by first | exact Or.inr ⟨_, rfl⟩ | exact Or.inl rfl | exact va_rf_or _) ?_
  refine gf_X3_46 X w dX3_user_1 tw.o rfl ?_
  refine ro_iload_n X hl dX3_user_4 rfl ?_
  refine ro_ialdE X w dX3_user_5 (tw.ar 17 (n := 36) rfl rfl) rfl (by omega) (by decide) ?_
  refine lv_iconst (v := (-1)) X.1 X.2.1 dX3_user_6 (by decide) ?_
  refine lv_icmp_eq (tgt := 42) X.1 X.2.1 dX3_user_7 (by decide) (fun c7 => ?_) (fun c7 => ?_)
  · refine ro_aload_n X hl dX3_user_42 rfl (by first | exact Or.inr ⟨_, rfl⟩ | exact Or.inl rfl | exact va_rf_or _) ?_
    refine gf_X3_46 X w dX3_user_43 tw.o rfl ?_
    refine ro_iload_n X hl dX3_user_46 rfl ?_
    refine ro_ialdE X w dX3_user_47 (tw.ar 17 (n := 36) rfl rfl) rfl (by omega) (by decide) ?_
    exact ro_retI X w hQ hlk dX3_user_48 hr rfl (Nat.le_of_ble_eq_true rfl) (Nat.le_of_ble_eq_true rfl) ⟨hp_vi (by first | (simp [tv_user, Int32.not_le.mpr c30, *]; done) | (simp [tv_user, Int32.not_lt.mp c30, *]; done) | (simp [tv_user, *]; done)), rfl⟩
  · refine ro_aload_n X hl dX3_user_10 rfl (by first | exact Or.inr ⟨_, rfl⟩ | exact Or.inl rfl | exact va_rf_or _) ?_
    refine gf_X3_49 X w dX3_user_11 tw.o rfl ?_
    refine ro_iload_n X hl dX3_user_14 rfl ?_
    refine ro_ialdE X w dX3_user_15 (tw.ar 18 (n := 36) rfl rfl) rfl (by omega) (by decide) ?_
    refine lv_iconst (v := (-1)) X.1 X.2.1 dX3_user_16 (by decide) ?_
    refine lv_icmp_eq (tgt := 42) X.1 X.2.1 dX3_user_17 (by decide) (fun c17 => ?_) (fun c17 => ?_)
    · refine ro_aload_n X hl dX3_user_42 rfl (by first | exact Or.inr ⟨_, rfl⟩ | exact Or.inl rfl | exact va_rf_or _) ?_
      refine gf_X3_46 X w dX3_user_43 tw.o rfl ?_
      refine ro_iload_n X hl dX3_user_46 rfl ?_
      refine ro_ialdE X w dX3_user_47 (tw.ar 17 (n := 36) rfl rfl) rfl (by omega) (by decide) ?_
      exact ro_retI X w hQ hlk dX3_user_48 hr rfl (Nat.le_of_ble_eq_true rfl) (Nat.le_of_ble_eq_true rfl) ⟨hp_vi (by first | (simp [tv_user, Int32.not_le.mpr c30, *]; done) | (simp [tv_user, Int32.not_lt.mp c30, *]; done) | (simp [tv_user, *]; done)), rfl⟩
    · refine ro_aload_n X hl dX3_user_20 rfl (by first | exact Or.inr ⟨_, rfl⟩ | exact Or.inl rfl | exact va_rf_or _) ?_
      refine gf_X3_90 X w dX3_user_21 tw.o rfl ?_
      refine ro_aload_n X hl dX3_user_24 rfl (by first | exact Or.inr ⟨_, rfl⟩ | exact Or.inl rfl | exact va_rf_or _) ?_
      refine gf_X3_52 X w dX3_user_25 tw.o rfl ?_
      refine ro_iload_n X hl dX3_user_28 rfl ?_
      refine ro_ialdE X w dX3_user_29 (tw.ar 19 (n := 36) rfl rfl) rfl (by omega) (by decide) ?_
      refine lv_icmp_gt (tgt := 42) X.1 X.2.1 dX3_user_30 (by decide) (fun c30 => ?_) (fun c30 => ?_)
      · refine ro_aload_n X hl dX3_user_42 rfl (by first | exact Or.inr ⟨_, rfl⟩ | exact Or.inl rfl | exact va_rf_or _) ?_
        refine gf_X3_46 X w dX3_user_43 tw.o rfl ?_
        refine ro_iload_n X hl dX3_user_46 rfl ?_
        refine ro_ialdE X w dX3_user_47 (tw.ar 17 (n := 36) rfl rfl) rfl (by omega) (by decide) ?_
        exact ro_retI X w hQ hlk dX3_user_48 hr rfl (Nat.le_of_ble_eq_true rfl) (Nat.le_of_ble_eq_true rfl) ⟨hp_vi (by first | (simp [tv_user, Int32.not_le.mpr c30, *]; done) | (simp [tv_user, Int32.not_lt.mp c30, *]; done) | (simp [tv_user, *]; done)), rfl⟩
      · refine ro_aload_n X hl dX3_user_33 rfl (by first | exact Or.inr ⟨_, rfl⟩ | exact Or.inl rfl | exact va_rf_or _) ?_
        refine gf_X3_49 X w dX3_user_34 tw.o rfl ?_
        refine ro_iload_n X hl dX3_user_37 rfl ?_
        refine ro_ialdE X w dX3_user_38 (tw.ar 18 (n := 36) rfl rfl) rfl (by omega) (by decide) ?_
        refine lv_goto (tgt := 48) X.1 X.2.1 dX3_user_39 (by decide) ?_
        exact ro_retI X w hQ hlk dX3_user_48 hr rfl (Nat.le_of_ble_eq_true rfl) (Nat.le_of_ble_eq_true rfl) ⟨hp_vi (by first | (simp [tv_user, Int32.not_le.mpr c30, *]; done) | (simp [tv_user, Int32.not_lt.mp c30, *]; done) | (simp [tv_user, *]; done)), rfl⟩
theorem mt_X3_skinOf {l : Launch} {G : hp_G} {B : Nat} {h : hp_H} {x : Nat} {ad : Nat → Nat} {T : tw_T} {np nm se ns : Nat} {g n : Int32} (t0 : TW G x ad T h) (ok : tw_ok T np nm se ns) : hp_M l G B yX3_skinOf cX3_skinOf 3 (some .int) 3 0 0 [.ref x, .int g, .int n] h (hp_E (tw_api G x ad h T (tk_skinOf T g n) (tv_skinOf T (ix g) n) (t9 T))) := by
  refine hp_M.of (by decide) 0 (List.forall_mem_cons.mpr ⟨rfl, (List.forall_mem_cons.mpr ⟨rfl, (List.forall_mem_cons.mpr ⟨rfl, (fun _ h => absurd h List.not_mem_nil)⟩)⟩)⟩) (Nat.le_of_ble_eq_true rfl) ?_
  intro p e s m below meth cd Q ls X hr hlk hnm w hl hQ
  have hl : hp_L ls 3 [some (.ref x), some (.int g), some (.int n)] := hl
  have tw := t0.f
  have ok0 := ok
  obtain ⟨o1, o2, o3, o4, o5, o6, o7, o8, om, ok2, ol⟩ := ok
  have sm0 := tw_sm.rf T
  have J : ∀ (k : Int32) (H : Heap) (locs : List Loc) (ls : Array Slot), hp_Ws G B h s H locs → hp_L ls 3 [some (.ref x), some (.int g), some (.int n)] → k = tk_skinOf T g n → W p l e (hp_rm 3 0 0) s m ([.ref x, .int g, .int n] : List Value).toArray below meth cd H locs 0 0 Q (F0 m 28 ls [.int k, .ref x]) := by
    intro k H locs ls w hl hk
    refine ro_kI (cs_X3_93 X w tw.o (mt_X3_fails tw.1) rfl rfl hl ⟨⟨Nat.le_of_ble_eq_true rfl, Nat.le_of_ble_eq_true rfl⟩, Nat.le_of_ble_eq_true rfl, Nat.le_of_ble_eq_true rfl⟩ (Nat.le_of_ble_eq_true rfl) dX3_skinOf_28) w (fun h H locs hp28 w => ?_)
    have tw := tw.tr hp28
    refine lv_if_eq (tgt := 36) X.1 X.2.1 dX3_skinOf_31 (by decide) (fun c31 => ?_) (fun c31 => ?_)
    · have hk0 := tk3_0 hk c31
      have hK := hk.symm.trans hk0
      subst hk0
      have pk := isb_px o7 (by omega) (tk3_z hK).1
      have pk2 := pk.2
      have pn : pxn n 7 := isb_px (m := 7) (n := 7) rfl (by decide) (tk3_z hK).2.1
      refine ro_iload_n X hl dX3_skinOf_36 rfl ?_
      have en := pn.1
      have hn7 := pn.2
      generalize ix n = i at en hn7
      subst en
      match i, hn7 with
      | 0, _ =>
        refine lv_tableIn (tgt := 76) X.1 X.2.1 dX3_skinOf_37 (by decide) (by decide) rfl (by decide) ?_
        refine ro_aload_n X hl dX3_skinOf_76 rfl (by first | exact Or.inr ⟨_, rfl⟩ | exact Or.inl rfl | exact va_rf_or _) ?_
        refine gf_X3_46 X w dX3_skinOf_77 tw.o rfl ?_
        refine ro_iload_n X hl dX3_skinOf_80 rfl ?_
        refine ro_ialdE X w dX3_skinOf_81 (tw.ar 17 (n := 36) rfl rfl) pk.1 (by omega) (by decide) ?_
        exact ro_retI X w hQ hlk dX3_skinOf_82 hr rfl (Nat.le_of_ble_eq_true rfl) (Nat.le_of_ble_eq_true rfl) (tw_yes tw hK rfl (by first | rfl | simp [tv_skinOf]) (tw_sm.rf _))
      | 1, _ =>
        refine lv_tableIn (tgt := 83) X.1 X.2.1 dX3_skinOf_37 (by decide) (by decide) rfl (by decide) ?_
        refine ro_aload_n X hl dX3_skinOf_83 rfl (by first | exact Or.inr ⟨_, rfl⟩ | exact Or.inl rfl | exact va_rf_or _) ?_
        refine gf_X3_43 X w dX3_skinOf_84 tw.o rfl ?_
        refine ro_iload_n X hl dX3_skinOf_87 rfl ?_
        refine ro_ialdE X w dX3_skinOf_88 (tw.ar 16 (n := 36) rfl rfl) pk.1 (by omega) (by decide) ?_
        exact ro_retI X w hQ hlk dX3_skinOf_89 hr rfl (Nat.le_of_ble_eq_true rfl) (Nat.le_of_ble_eq_true rfl) (tw_yes tw hK rfl (by first | rfl | simp [tv_skinOf]) (tw_sm.rf _))
      | 2, _ =>
        refine lv_tableIn (tgt := 90) X.1 X.2.1 dX3_skinOf_37 (by decide) (by decide) rfl (by decide) ?_
        refine ro_aload_n X hl dX3_skinOf_90 rfl (by first | exact Or.inr ⟨_, rfl⟩ | exact Or.inl rfl | exact va_rf_or _) ?_
        refine ro_iload_n X hl dX3_skinOf_91 rfl ?_
        refine ro_kJ (cs_X3_150 X w tw.o (mt_X3_user tw.1 (k := ix g) (by omega)) rfl (by rw [← pk.1]; rfl) hl ⟨⟨Nat.le_of_ble_eq_true rfl, Nat.le_of_ble_eq_true rfl⟩, Nat.le_of_ble_eq_true rfl, Nat.le_of_ble_eq_true rfl⟩ (Nat.le_of_ble_eq_true rfl) dX3_skinOf_92) w (fun H locs w => ?_)
        exact ro_retI X w hQ hlk dX3_skinOf_95 hr rfl (Nat.le_of_ble_eq_true rfl) (Nat.le_of_ble_eq_true rfl) (tw_yes tw hK rfl (by first | rfl | simp [tv_skinOf]) (tw_sm.rf _))
      | 3, _ =>
        refine lv_tableIn (tgt := 96) X.1 X.2.1 dX3_skinOf_37 (by decide) (by decide) rfl (by decide) ?_
        refine ro_aload_n X hl dX3_skinOf_96 rfl (by first | exact Or.inr ⟨_, rfl⟩ | exact Or.inl rfl | exact va_rf_or _) ?_
        refine gf_X3_37 X w dX3_skinOf_97 tw.o rfl ?_
        refine ro_iload_n X hl dX3_skinOf_100 rfl ?_
        refine ro_ialdE X w dX3_skinOf_101 (tw.ar 14 (n := 36) rfl rfl) pk.1 (by omega) (by decide) ?_
        exact ro_retI X w hQ hlk dX3_skinOf_102 hr rfl (Nat.le_of_ble_eq_true rfl) (Nat.le_of_ble_eq_true rfl) (tw_yes tw hK rfl (by first | rfl | simp [tv_skinOf]) (tw_sm.rf _))
      | 4, _ =>
        refine lv_tableIn (tgt := 103) X.1 X.2.1 dX3_skinOf_37 (by decide) (by decide) rfl (by decide) ?_
        refine ro_aload_n X hl dX3_skinOf_103 rfl (by first | exact Or.inr ⟨_, rfl⟩ | exact Or.inl rfl | exact va_rf_or _) ?_
        refine gf_X3_40 X w dX3_skinOf_104 tw.o rfl ?_
        refine ro_iload_n X hl dX3_skinOf_107 rfl ?_
        refine ro_ialdE X w dX3_skinOf_108 (tw.ar 15 (n := 36) rfl rfl) pk.1 (by omega) (by decide) ?_
        exact ro_retI X w hQ hlk dX3_skinOf_109 hr rfl (Nat.le_of_ble_eq_true rfl) (Nat.le_of_ble_eq_true rfl) (tw_yes tw hK rfl (by first | rfl | simp [tv_skinOf]) (tw_sm.rf _))
      | 5, _ =>
        refine lv_tableIn (tgt := 110) X.1 X.2.1 dX3_skinOf_37 (by decide) (by decide) rfl (by decide) ?_
        refine ro_aload_n X hl dX3_skinOf_110 rfl (by first | exact Or.inr ⟨_, rfl⟩ | exact Or.inl rfl | exact va_rf_or _) ?_
        refine gf_X3_58 X w dX3_skinOf_111 tw.o rfl ?_
        refine ro_iload_n X hl dX3_skinOf_114 rfl ?_
        refine ro_ialdE X w dX3_skinOf_115 (tw.ar 21 (n := 36) rfl rfl) pk.1 (by omega) (by decide) ?_
        exact ro_retI X w hQ hlk dX3_skinOf_116 hr rfl (Nat.le_of_ble_eq_true rfl) (Nat.le_of_ble_eq_true rfl) (tw_yes tw hK rfl (by first | rfl | simp [tv_skinOf]) (tw_sm.rf _))
      | 6, _ =>
        refine lv_tableOut (tgt := 117) X.1 X.2.1 dX3_skinOf_37 (by decide) (by decide) ?_
        refine ro_aload_n X hl dX3_skinOf_117 rfl (by first | exact Or.inr ⟨_, rfl⟩ | exact Or.inl rfl | exact va_rf_or _) ?_
        refine gf_X3_55 X w dX3_skinOf_118 tw.o rfl ?_
        refine ro_iload_n X hl dX3_skinOf_121 rfl ?_
        refine ro_ialdE X w dX3_skinOf_122 (tw.ar 20 (n := 36) rfl rfl) pk.1 (by omega) (by decide) ?_
        refine lv_iconst (v := (-1)) X.1 X.2.1 dX3_skinOf_123 (by decide) ?_
        refine lv_icmp_ne (tgt := 131) X.1 X.2.1 dX3_skinOf_124 (by decide) (fun c124 => ?_) (fun c124 => ?_)
        · refine lv_iconst (v := 1) X.1 X.2.1 dX3_skinOf_131 (by decide) ?_
          exact ro_retI X w hQ hlk dX3_skinOf_132 hr rfl (Nat.le_of_ble_eq_true rfl) (Nat.le_of_ble_eq_true rfl) (tw_yes tw hK rfl (by first | exact (bz_t c124).symm | exact (bz_f (fun q => q c124)).symm) (tw_sm.rf _))
        · refine lv_iconst (v := 0) X.1 X.2.1 dX3_skinOf_127 (by decide) ?_
          refine lv_goto (tgt := 132) X.1 X.2.1 dX3_skinOf_128 (by decide) ?_
          exact ro_retI X w hQ hlk dX3_skinOf_132 hr rfl (Nat.le_of_ble_eq_true rfl) (Nat.le_of_ble_eq_true rfl) (tw_yes tw hK rfl (by first | exact (bz_t c124).symm | exact (bz_f (fun q => q c124)).symm) (tw_sm.rf _))
      | i + 7, hi => exact absurd hi (by omega)
    · have hKn := tk3_n hk c31
      refine lv_iconst (v := 0) X.1 X.2.1 dX3_skinOf_34 (by decide) ?_
      exact ro_retI X w hQ hlk dX3_skinOf_35 hr rfl (Nat.le_of_ble_eq_true rfl) (Nat.le_of_ble_eq_true rfl) (tw_no tw hk hKn)
  refine ro_aload_n X hl dX3_skinOf_0 rfl (by first | exact Or.inr ⟨_, rfl⟩ | exact Or.inl rfl | exact va_rf_or _) ?_
  refine ro_aload_n X hl dX3_skinOf_1 rfl (by first | exact Or.inr ⟨_, rfl⟩ | exact Or.inl rfl | exact va_rf_or _) ?_
  refine ro_iload_n X hl dX3_skinOf_2 rfl ?_
  refine ro_kJ (cs_X3_136 X w tw.o (mt_X3_isSkin tw.1) rfl rfl hl ⟨⟨Nat.le_of_ble_eq_true rfl, Nat.le_of_ble_eq_true rfl⟩, Nat.le_of_ble_eq_true rfl, Nat.le_of_ble_eq_true rfl⟩ (Nat.le_of_ble_eq_true rfl) dX3_skinOf_3) w (fun H locs w => ?_)
  refine lv_if_ne (tgt := 13) X.1 X.2.1 dX3_skinOf_6 (by decide) (fun c6 => ?_) (fun c6 => ?_)
  · refine ro_iload_n X hl dX3_skinOf_13 rfl ?_
    refine lv_iconst (v := 0) X.1 X.2.1 dX3_skinOf_14 (by decide) ?_
    refine lv_bipush (v := 6) X.1 X.2.1 dX3_skinOf_15 (by decide) ?_
    refine ro_kJ (cs_X3_86 X w mt_X3_isIn rfl rfl hl ⟨⟨Nat.le_of_ble_eq_true rfl, Nat.le_of_ble_eq_true rfl⟩, Nat.le_of_ble_eq_true rfl, Nat.le_of_ble_eq_true rfl⟩ (Nat.le_of_ble_eq_true rfl) dX3_skinOf_17) w (fun H locs w => ?_)
    refine lv_if_eq (tgt := 27) X.1 X.2.1 dX3_skinOf_20 (by decide) (fun c20 => ?_) (fun c20 => ?_)
    · refine lv_iconst (v := 2) X.1 X.2.1 dX3_skinOf_27 (by decide) ?_
      exact J _ _ _ ls w (hl.mask [true, true, true]) (tk3_2 c6 c20)
    · refine lv_iconst (v := 0) X.1 X.2.1 dX3_skinOf_23 (by decide) ?_
      refine lv_goto (tgt := 28) X.1 X.2.1 dX3_skinOf_24 (by decide) ?_
      exact J _ _ _ ls w (hl.mask [true, true, true]) (tk3_4 c6 c20 id)
  · refine lv_iconst (v := 1) X.1 X.2.1 dX3_skinOf_9 (by decide) ?_
    refine lv_goto (tgt := 28) X.1 X.2.1 dX3_skinOf_10 (by decide) ?_
    exact J _ _ _ ls w (hl.mask [true, true, true]) (tk3_1 c6)
theorem mt_X3_puts {l : Launch} {G : hp_G} {B : Nat} {h : hp_H} {x : Nat} {ad : Nat → Nat} {T : tw_T} {v : Int32} (t0 : TW G x ad T h) (hw : pxn (T.1 28) 16) : hp_M l G B yX3_puts cX3_puts 2 none 1 0 0 [.ref x, .int v] h (hp_V (TWf G x ad h (tx_put T v))) := by
  refine hp_M.of (by decide) 0 (List.forall_mem_cons.mpr ⟨rfl, (List.forall_mem_cons.mpr ⟨rfl, (fun _ h => absurd h List.not_mem_nil)⟩)⟩) (Nat.le_of_ble_eq_true rfl) ?_
  intro p e s m below meth cd Q ls X hr hlk hnm w hl hQ
  have hl : hp_L ls 2 [some (.ref x), some (.int v)] := hl
  have tw := t0.f
  refine ro_aload_n X hl dX3_puts_0 rfl (by first | exact Or.inr ⟨_, rfl⟩ | exact Or.inl rfl | exact va_rf_or _) ?_
  refine gf_X3_76 X w dX3_puts_1 tw.o rfl ?_
  refine ro_aload_n X hl dX3_puts_4 rfl (by first | exact Or.inr ⟨_, rfl⟩ | exact Or.inl rfl | exact va_rf_or _) ?_
  refine gf_X3_153 X w dX3_puts_5 tw.o rfl ?_
  refine ro_iload_n X hl dX3_puts_8 rfl ?_
  refine tw_iast X w tw 27 (n := 16) rfl rfl dX3_puts_9 hw.1 hw.2 (by decide) (fun h H locs w tw => ?_)
  refine ro_aload_n X hl dX3_puts_10 rfl (by first | exact Or.inr ⟨_, rfl⟩ | exact Or.inl rfl | exact va_rf_or _) ?_
  refine lv_dup X.1 X.2.1 dX3_puts_11 rfl ?_
  refine gf_X3_153 X w dX3_puts_12 tw.o rfl ?_
  refine lv_iconst (v := 1) X.1 X.2.1 dX3_puts_15 (by decide) ?_
  refine lv_iadd X.1 X.2.1 dX3_puts_16 ?_
  refine tp_X3_153 X w tw dX3_puts_17 (fun h H locs w tw => ?_)
  exact ro_ret0 X w hQ hlk dX3_puts_20 hr (Nat.le_of_ble_eq_true rfl) (Nat.le_of_ble_eq_true rfl) ⟨rfl, tw⟩
theorem mt_X3_pays {l : Launch} {G : hp_G} {B : Nat} {h : hp_H} {x : Nat} {ad : Nat → Nat} {T : tw_T} {f g n : Int32} (t0 : TW G x ad T h) (hf : f = -1 ∨ pxn f 16) (hg : g = -1 ∨ pxn g 16) : hp_M l G B yX3_pays cX3_pays 4 none 1 0 0 [.ref x, .int f, .int g, .int n] h (hp_V (TWf G x ad h (tp_pay T f g n))) := by
  refine hp_M.of (by decide) 0 (List.forall_mem_cons.mpr ⟨rfl, (List.forall_mem_cons.mpr ⟨rfl, (List.forall_mem_cons.mpr ⟨rfl, (List.forall_mem_cons.mpr ⟨rfl, (fun _ h => absurd h List.not_mem_nil)⟩)⟩)⟩)⟩) (Nat.le_of_ble_eq_true rfl) ?_
  intro p e s m below meth cd Q ls X hr hlk hnm w hl hQ
  have hl : hp_L ls 4 [some (.ref x), some (.int f), some (.int g), some (.int n)] := hl
  have tw := t0.f
  refine ro_iload_n X hl dX3_pays_0 rfl ?_
  refine lv_iconst (v := (-1)) X.1 X.2.1 dX3_pays_1 (by decide) ?_
  refine lv_icmp_eq (tgt := 30) X.1 X.2.1 dX3_pays_2 (by decide) (fun c2 => ?_) (fun c2 => ?_)
  · exact ro_ret0 X w hQ hlk dX3_pays_30 hr (Nat.le_of_ble_eq_true rfl) (Nat.le_of_ble_eq_true rfl) ⟨rfl, tw.cast (by first | exact if_pos c2 | exact (if_neg c2).trans (if_pos c7) | exact (if_neg c2).trans (if_neg c7))⟩
  · refine ro_iload_n X hl dX3_pays_5 rfl ?_
    refine lv_iconst (v := (-1)) X.1 X.2.1 dX3_pays_6 (by decide) ?_
    refine lv_icmp_eq (tgt := 30) X.1 X.2.1 dX3_pays_7 (by decide) (fun c7 => ?_) (fun c7 => ?_)
    · exact ro_ret0 X w hQ hlk dX3_pays_30 hr (Nat.le_of_ble_eq_true rfl) (Nat.le_of_ble_eq_true rfl) ⟨rfl, tw.cast (by first | exact if_pos c2 | exact (if_neg c2).trans (if_pos c7) | exact (if_neg c2).trans (if_neg c7))⟩
    · have hf := hf.resolve_left c2
      have hg := hg.resolve_left c7
      refine ro_aload_n X hl dX3_pays_10 rfl (by first | exact Or.inr ⟨_, rfl⟩ | exact Or.inl rfl | exact va_rf_or _) ?_
      refine gf_X3_16 X w dX3_pays_11 tw.o rfl ?_
      refine ro_iload_n X hl dX3_pays_14 rfl ?_
      refine lv_dup2_11 X.1 X.2.1 dX3_pays_15 rfl rfl ?_
      refine ro_ialdE X w dX3_pays_16 (tw.ar 4 (n := 16) rfl rfl) hf.1 hf.2 (by decide) ?_
      refine ro_iload_n X hl dX3_pays_17 rfl ?_
      refine lv_isub X.1 X.2.1 dX3_pays_18 ?_
      refine tw_iast X w tw 4 (n := 16) rfl rfl dX3_pays_19 hf.1 hf.2 (by decide) (fun h H locs w tw => ?_)
      refine ro_aload_n X hl dX3_pays_20 rfl (by first | exact Or.inr ⟨_, rfl⟩ | exact Or.inl rfl | exact va_rf_or _) ?_
      refine gf_X3_16 X w dX3_pays_21 tw.o rfl ?_
      refine ro_iload_n X hl dX3_pays_24 rfl ?_
      refine lv_dup2_11 X.1 X.2.1 dX3_pays_25 rfl rfl ?_
      refine ro_ialdE X w dX3_pays_26 (tw.ar 4 (n := 16) rfl rfl) hg.1 hg.2 (by decide) ?_
      refine ro_iload_n X hl dX3_pays_27 rfl ?_
      refine lv_iadd X.1 X.2.1 dX3_pays_28 ?_
      refine tw_iast X w tw 4 (n := 16) rfl rfl dX3_pays_29 hg.1 hg.2 (by decide) (fun h H locs w tw => ?_)
      exact ro_ret0 X w hQ hlk dX3_pays_30 hr (Nat.le_of_ble_eq_true rfl) (Nat.le_of_ble_eq_true rfl) ⟨rfl, tw.cast (by first | exact if_pos c2 | exact (if_neg c2).trans (if_pos c7) | exact (if_neg c2).trans (if_neg c7))⟩
