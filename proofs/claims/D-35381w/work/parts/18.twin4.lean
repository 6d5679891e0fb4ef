/-! THE REFERENCE: heirs, proofs, seasons, labels (printed by tools/m18.py) -/
set_option maxRecDepth 100000
theorem nI_m1 (a : Int32) : a + Int32.ofInt (-1) = a - 1 := by rw [Int32.sub_eq_add_neg]; rfl
theorem mul20n (k : Nat) : 20 * nI k = nI (20 * k) := by rw [show (20 : Int32) = nI 20 from rfl, pk_mul]
theorem tu_inh_1 (T : tw_T) (k : Nat) (its : Int32) : (tu_inh T k its).1 = T.1 := by
  unfold tu_inh
  split
  · exact (ti_u_o _ _ _).1
  · exact (tp_pay_o _ _ _ _).1
theorem tw_z_1 (T : tw_T) : ∀ n, (tw_z T n).1 = T.1
  | 0 => rfl
  | n + 1 => tw_z_1 T n
theorem tw_c1_1 (T : tw_T) (s : Int32) (j : Nat) : (tw_c1 T s j).1 = T.1 := by unfold tw_c1; split <;> rfl
theorem tw_cl_1 (s : Int32) (T : tw_T) : ∀ n, (tw_cl s T n).1 = T.1
  | 0 => rfl
  | n + 1 => (tw_c1_1 _ s n).trans (tw_cl_1 s T n)
theorem tw_cn_1 (T : tw_T) (s : Int32) (np nm : Nat) : (tw_cn T s np nm).1 = T.1 := (tw_cl_1 s _ nm).trans (tw_z_1 T np)
theorem tl_1_1 (T : tw_T) (np k : Nat) : (tl_1 T np k).1 = T.1 := by unfold tl_1; split; exact rfl; exact tu_inh_1 _ _ _
theorem tl_l_1 (T : tw_T) (np nm : Nat) : ∀ k, (tl_l T np nm k).1 = T.1
  | 0 => rfl
  | k + 1 => (tl_1_1 _ np k).trans ((tw_cn_1 _ _ np nm).trans (tl_l_1 T np nm k))
theorem nI_m1_lt {n : Nat} (h : n < 2147483648) : nI n - 1 < nI n := by
  cases n with
  | zero => decide
  | succ n => rw [nI_pred]; exact (nI_ltI (by omega) h).mpr (by omega)
theorem nI_m1_nlt {n m : Nat} (h : n < 2147483648) (hm : m ≤ n) : ¬ nI (n + 1) - 1 < nI m := by
  rw [nI_pred]; exact nI_nlt (by omega) h
theorem mt_X3_inherits {l : Launch} {G : hp_G} {B : Nat} {h : hp_H} {x : Nat} {ad : Nat → Nat} {T : tw_T} {np nm se ns k : Nat} {its : Int32} (t0 : TW G x ad T h) (ok : tw_ok T np nm se ns) (hk : k < ns) (hi : its = -1 ∨ pxn its np) : hp_M l G B yX3_inherits cX3_inherits 4 none 2 0 0 [.ref x, .int (nI k), .int its] h (hp_V (TWf G x ad h (tu_inh T k its))) := by
  refine hp_M.of (by decide) 1 (List.forall_mem_cons.mpr ⟨rfl, (List.forall_mem_cons.mpr ⟨rfl, (List.forall_mem_cons.mpr ⟨rfl, (fun _ h => absurd h List.not_mem_nil)⟩)⟩)⟩) (Nat.le_of_ble_eq_true rfl) ?_
  intro p e s m below meth cd Q ls X hr hlk hnm w hl hQ
  have hl : hp_L ls 4 [some (.ref x), some (.int (nI k)), some (.int its), none] := hl
  have tw := t0.f
  obtain ⟨o1, o2, o3, o4, o5, o6, o7, o8, om, ok2, ol⟩ := ok
  obtain ⟨-, -, a3, a4, -, -, c, a6, a7, a8, a9⟩ := ok2 k hk
  have hi16 : its = -1 ∨ pxn its 16 := hi.imp id (fun q => q.le o2)
  have hcc : ix (T.2 21 k) = c := by rw [a6]; exact nI_clamp (by omega)
  refine ro_aload_n X hl dX3_inherits_0 rfl (by first | exact Or.inr ⟨_, rfl⟩ | exact Or.inl rfl | exact va_rf_or _) ?_
  refine gf_X3_55 X w dX3_inherits_1 tw.o rfl ?_
  refine ro_iload_n X hl dX3_inherits_4 rfl ?_
  refine ro_ialdE X w dX3_inherits_5 (tw.ar 20 (n := 36) rfl rfl) rfl (by omega) (by decide) ?_
  refine lv_iconst (v := (-1)) X.1 X.2.1 dX3_inherits_6 (by decide) ?_
  refine lv_icmp_eq (tgt := 40) X.1 X.2.1 dX3_inherits_7 (by decide) (fun c7 => ?_) (fun c7 => ?_)
  · refine lv_bipush (v := 20) X.1 X.2.1 dX3_inherits_40 (by decide) ?_
    refine ro_iload_n X hl dX3_inherits_42 rfl ?_
    refine lv_imul X.1 X.2.1 dX3_inherits_43 ?_
    refine ro_aload_n X hl dX3_inherits_44 rfl (by first | exact Or.inr ⟨_, rfl⟩ | exact Or.inl rfl | exact va_rf_or _) ?_
    refine gf_X3_58 X w dX3_inherits_45 tw.o rfl ?_
    refine ro_iload_n X hl dX3_inherits_48 rfl ?_
    refine ro_ialdE X w dX3_inherits_49 (tw.ar 21 (n := 36) rfl rfl) rfl (by omega) (by decide) ?_
    refine lv_iadd X.1 X.2.1 dX3_inherits_50 ?_
    refine lv_iconst (v := 1) X.1 X.2.1 dX3_inherits_51 (by decide) ?_
    refine lv_isub X.1 X.2.1 dX3_inherits_52 ?_
    refine ro_istore_n X hl dX3_inherits_53 (by decide) (fun ls hl => ?_)
    rw [show 20 * nI k + T.2 21 k - 1 = nI (20 * k + c) - 1 by rw [mul20n, a6, nI_add]] at hl
    have key : ∀ (n : Nat) (T1 : tw_T) (h1 : hp_H) (H : Heap) (locs : List Loc) (ls : Array Slot), n ≤ c → TWf G x ad h T1 h1 → (∀ j, j ≠ 4 → T1.2 j = T.2 j) → ti_u (20 * k) n T1 = ti_u (20 * k) (ix (T.2 21 k)) T → hp_Ws G B h1 s H locs → hp_L ls 4 [some (.ref x), some (.int (nI k)), some (.int its), some (.int (nI (20 * k + n) - 1))] → W p l e (hp_rm 2 0 0) s m ([.ref x, .int (nI k), .int its] : List Value).toArray below meth cd H locs (0 + 0) (0 + 0) Q (F0 m 54 ls []) := by
      intro n
      induction n with
      | zero =>
        intro T1 h1 H locs ls hn tw e4 hE w hl
        replace hE : T1 = _ := hE
        refine ro_iload_n X hl dX3_inherits_54 rfl ?_
        refine lv_bipush (v := 20) X.1 X.2.1 dX3_inherits_55 (by decide) ?_
        refine ro_iload_n X hl dX3_inherits_57 rfl ?_
        refine lv_imul X.1 X.2.1 dX3_inherits_58 ?_
        refine lv_icmp_lt (tgt := 90) X.1 X.2.1 dX3_inherits_59 (by decide) (fun c59 => ?_) (fun c59 => ?_)
        · refine ro_aload_n X hl dX3_inherits_90 rfl (by first | exact Or.inr ⟨_, rfl⟩ | exact Or.inl rfl | exact va_rf_or _) ?_
          refine gf_X3_58 X w dX3_inherits_91 tw.o rfl ?_
          refine ro_iload_n X hl dX3_inherits_94 rfl ?_
          refine lv_iconst (v := 0) X.1 X.2.1 dX3_inherits_95 (by decide) ?_
          refine tw_iast X w tw 21 (n := 36) rfl rfl dX3_inherits_96 rfl (by omega) (by decide) (fun h H locs w tw => ?_)
          refine ro_aload_n X hl dX3_inherits_97 rfl (by first | exact Or.inr ⟨_, rfl⟩ | exact Or.inl rfl | exact va_rf_or _) ?_
          refine gf_X3_46 X w dX3_inherits_98 tw.o rfl ?_
          refine ro_iload_n X hl dX3_inherits_101 rfl ?_
          refine ro_iload_n X hl dX3_inherits_102 rfl ?_
          refine tw_iast X w tw 17 (n := 36) rfl rfl dX3_inherits_103 rfl (by omega) (by decide) (fun h H locs w tw => ?_)
          refine ro_aload_n X hl dX3_inherits_104 rfl (by first | exact Or.inr ⟨_, rfl⟩ | exact Or.inl rfl | exact va_rf_or _) ?_
          refine gf_X3_49 X w dX3_inherits_105 tw.o rfl ?_
          refine ro_iload_n X hl dX3_inherits_108 rfl ?_
          refine lv_iconst (v := (-1)) X.1 X.2.1 dX3_inherits_109 (by decide) ?_
          refine tw_iast X w tw 18 (n := 36) rfl rfl dX3_inherits_110 rfl (by omega) (by decide) (fun h H locs w tw => ?_)
          refine ro_aload_n X hl dX3_inherits_111 rfl (by first | exact Or.inr ⟨_, rfl⟩ | exact Or.inl rfl | exact va_rf_or _) ?_
          refine gf_X3_43 X w dX3_inherits_112 tw.o rfl ?_
          refine ro_iload_n X hl dX3_inherits_115 rfl ?_
          refine ro_iload_n X hl dX3_inherits_116 rfl ?_
          refine tw_iast X w tw 16 (n := 36) rfl rfl dX3_inherits_117 rfl (by omega) (by decide) (fun h H locs w tw => ?_)
          exact ro_ret0 X w hQ hlk dX3_inherits_118 hr (Nat.le_of_ble_eq_true rfl) (Nat.le_of_ble_eq_true rfl) ⟨rfl, tw.cast (by unfold tu_inh; first | (rw [if_pos c7, ← hE]; done) | (rw [if_pos c7, ← hE]; rfl) | (rw [if_neg c7]; done) | (rw [if_neg c7]; rfl))⟩
        · exact absurd (by rw [mul20n]; exact nI_m1_lt (by omega)) c59
      | succ n ih =>
        intro T1 h1 H locs ls hn tw e4 hE w hl
        obtain ⟨p1, p2⟩ := a9 n (by omega)
        have hji : nI (20 * k + (n + 1)) - 1 = nI (20 * k + n) := nI_pred _
        refine ro_iload_n X hl dX3_inherits_54 rfl ?_
        refine lv_bipush (v := 20) X.1 X.2.1 dX3_inherits_55 (by decide) ?_
        refine ro_iload_n X hl dX3_inherits_57 rfl ?_
        refine lv_imul X.1 X.2.1 dX3_inherits_58 ?_
        refine lv_icmp_lt (tgt := 90) X.1 X.2.1 dX3_inherits_59 (by decide) (fun c59 => ?_) (fun c59 => ?_)
        · exact absurd c59 (by rw [mul20n]; exact nI_m1_nlt (n := 20 * k + n) (m := 20 * k) (by omega) (by omega))
        · refine ro_aload_n X hl dX3_inherits_62 rfl (by first | exact Or.inr ⟨_, rfl⟩ | exact Or.inl rfl | exact va_rf_or _) ?_
          refine ro_aload_n X hl dX3_inherits_63 rfl (by first | exact Or.inr ⟨_, rfl⟩ | exact Or.inl rfl | exact va_rf_or _) ?_
          refine gf_X3_61 X w dX3_inherits_64 tw.o rfl ?_
          refine ro_iload_n X hl dX3_inherits_67 rfl ?_
          refine ro_ialdE X w dX3_inherits_68 (tw.ar 22 (n := 720) rfl rfl) hji (by omega) (by decide) ?_
          refine ro_aload_n X hl dX3_inherits_69 rfl (by first | exact Or.inr ⟨_, rfl⟩ | exact Or.inl rfl | exact va_rf_or _) ?_
          refine gf_X3_64 X w dX3_inherits_70 tw.o rfl ?_
          refine ro_iload_n X hl dX3_inherits_73 rfl ?_
          refine ro_ialdE X w dX3_inherits_74 (tw.ar 23 (n := 720) rfl rfl) hji (by omega) (by decide) ?_
          refine ro_aload_n X hl dX3_inherits_75 rfl (by first | exact Or.inr ⟨_, rfl⟩ | exact Or.inl rfl | exact va_rf_or _) ?_
          refine gf_X3_67 X w dX3_inherits_76 tw.o rfl ?_
          refine ro_iload_n X hl dX3_inherits_79 rfl ?_
          refine ro_ialdE X w dX3_inherits_80 (tw.ar 24 (n := 720) rfl rfl) hji (by omega) (by decide) ?_
          refine ro_kV (cs_X3_139 X w tw.o (mt_X3_pays tw.1 (Or.inr ((show pxn (T1.2 22 (20 * k + n)) np by rw [e4 22 (by decide)]; exact p1).le o2)) (Or.inr ((show pxn (T1.2 23 (20 * k + n)) np by rw [e4 23 (by decide)]; exact p2).le o2))) rfl rfl hl ⟨⟨Nat.le_of_ble_eq_true rfl, Nat.le_of_ble_eq_true rfl⟩, Nat.le_of_ble_eq_true rfl, Nat.le_of_ble_eq_true rfl⟩ (Nat.le_of_ble_eq_true rfl) dX3_inherits_81) w (fun h H locs hp81 w => ?_)
          have tw := tw.tr hp81
          refine ro_iinc X hl dX3_inherits_84 (by decide) rfl (fun ls hl => ?_)
          rw [nI_m1, hji] at hl
          refine lv_goto (tgt := 54) X.1 X.2.1 dX3_inherits_87 (by decide) ?_
          refine ih _ _ _ _ _ (by omega) tw (fun j hj => ((tp_pay_o _ _ _ _).2 j hj).trans (e4 j hj)) ?_ w hl
          rw [← hE]
          rfl
    exact key c T _ _ _ ls (Nat.le_refl _) tw (fun _ _ => rfl) (by rw [hcc]) w hl
  · obtain ⟨i, ei, hlt⟩ := a8.resolve_left c7
    have hii : ix (T.2 20 k) = i := by rw [ei]; exact nI_clamp (by omega)
    have hat : 20 * nI k + T.2 20 k = nI (20 * k + ix (T.2 20 k)) := by rw [hii, mul20n, ei, nI_add]
    refine ro_aload_n X hl dX3_inherits_10 rfl (by first | exact Or.inr ⟨_, rfl⟩ | exact Or.inl rfl | exact va_rf_or _) ?_
    refine ro_aload_n X hl dX3_inherits_11 rfl (by first | exact Or.inr ⟨_, rfl⟩ | exact Or.inl rfl | exact va_rf_or _) ?_
    refine gf_X3_43 X w dX3_inherits_12 tw.o rfl ?_
    refine ro_iload_n X hl dX3_inherits_15 rfl ?_
    refine ro_ialdE X w dX3_inherits_16 (tw.ar 16 (n := 36) rfl rfl) rfl (by omega) (by decide) ?_
    refine ro_iload_n X hl dX3_inherits_17 rfl ?_
    refine ro_aload_n X hl dX3_inherits_18 rfl (by first | exact Or.inr ⟨_, rfl⟩ | exact Or.inl rfl | exact va_rf_or _) ?_
    refine gf_X3_67 X w dX3_inherits_19 tw.o rfl ?_
    refine lv_bipush (v := 20) X.1 X.2.1 dX3_inherits_22 (by decide) ?_
    refine ro_iload_n X hl dX3_inherits_24 rfl ?_
    refine lv_imul X.1 X.2.1 dX3_inherits_25 ?_
    refine ro_aload_n X hl dX3_inherits_26 rfl (by first | exact Or.inr ⟨_, rfl⟩ | exact Or.inl rfl | exact va_rf_or _) ?_
    refine gf_X3_55 X w dX3_inherits_27 tw.o rfl ?_
    refine ro_iload_n X hl dX3_inherits_30 rfl ?_
    refine ro_ialdE X w dX3_inherits_31 (tw.ar 20 (n := 36) rfl rfl) rfl (by omega) (by decide) ?_
    refine lv_iadd X.1 X.2.1 dX3_inherits_32 ?_
    refine ro_ialdE X w dX3_inherits_33 (tw.ar 24 (n := 720) rfl rfl) hat (by omega) (by decide) ?_
    refine ro_kV (cs_X3_139 X w tw.o (mt_X3_pays tw.1 (a3.imp id (fun q => q.le o2)) hi16) rfl rfl hl ⟨⟨Nat.le_of_ble_eq_true rfl, Nat.le_of_ble_eq_true rfl⟩, Nat.le_of_ble_eq_true rfl, Nat.le_of_ble_eq_true rfl⟩ (Nat.le_of_ble_eq_true rfl) dX3_inherits_34) w (fun h H locs hp34 w => ?_)
    have tw := tw.tr hp34
    refine lv_goto (tgt := 111) X.1 X.2.1 dX3_inherits_37 (by decide) ?_
    refine ro_aload_n X hl dX3_inherits_111 rfl (by first | exact Or.inr ⟨_, rfl⟩ | exact Or.inl rfl | exact va_rf_or _) ?_
    refine gf_X3_43 X w dX3_inherits_112 tw.o rfl ?_
    refine ro_iload_n X hl dX3_inherits_115 rfl ?_
    refine ro_iload_n X hl dX3_inherits_116 rfl ?_
    refine tw_iast X w tw 16 (n := 36) rfl rfl dX3_inherits_117 rfl (by omega) (by decide) (fun h H locs w tw => ?_)
    exact ro_ret0 X w hQ hlk dX3_inherits_118 hr (Nat.le_of_ble_eq_true rfl) (Nat.le_of_ble_eq_true rfl) ⟨rfl, tw.cast (by unfold tu_inh; first | (rw [if_pos c7, ← hE]; done) | (rw [if_pos c7, ← hE]; rfl) | (rw [if_neg c7]; done) | (rw [if_neg c7]; rfl))⟩
theorem mt_X3_looks {l : Launch} {G : hp_G} {B : Nat} {h : hp_H} {x : Nat} {ad : Nat → Nat} {T : tw_T} {np nm se ns : Nat} (t0 : TW G x ad T h) (ok : tw_ok T np nm se ns) : hp_M l G B yX3_looks cX3_looks 3 none 4 0 0 [.ref x] h (hp_V (TWf G x ad h (tl_l T np nm ns))) := by
  refine hp_M.of (by decide) 2 (List.forall_mem_cons.mpr ⟨rfl, (fun _ h => absurd h List.not_mem_nil)⟩) (Nat.le_of_ble_eq_true rfl) ?_
  intro p e s m below meth cd Q ls X hr hlk hnm w hl hQ
  have hl : hp_L ls 3 [some (.ref x), none, none] := hl
  have tw := t0.f
  have ok0 := ok
  obtain ⟨o1, o2, o3, o4, o5, o6, o7, o8, om, ok2, ol⟩ := ok
  refine lv_iconst (v := 0) X.1 X.2.1 dX3_looks_0 (by decide) ?_
  refine ro_istore_n X hl dX3_looks_1 (by decide) (fun ls hl => ?_)
  have key : ∀ (n k : Nat) (h1 : hp_H) (H : Heap) (locs : List Loc) (ls : Array Slot), k + n = ns → TWf G x ad h (tl_l T np nm k) h1 → hp_Ws G B h1 s H locs → hp_L ls 3 [some (.ref x), some (.int (nI k)), none] → W p l e (hp_rm 4 0 0) s m ([.ref x] : List Value).toArray below meth cd H locs (0 + 0) (0 + 0) Q (F0 m 2 ls []) := by
    intro n
    induction n with
    | zero =>
      intro k h1 H locs ls hn tw w hl
      have okU := ok0.ll k
      have hn : k = ns := by omega
      refine ro_iload_n X hl dX3_looks_2 rfl ?_
      refine ro_aload_n X hl dX3_looks_3 rfl (by first | exact Or.inr ⟨_, rfl⟩ | exact Or.inl rfl | exact va_rf_or _) ?_
      refine gf_X3_133 X w dX3_looks_4 tw.o rfl ?_
      refine lv_icmp_ge (tgt := 53) X.1 X.2.1 dX3_looks_7 (by decide) (fun c7 => ?_) (fun c7 => ?_)
      · subst hn
        exact ro_ret0 X w hQ hlk dX3_looks_53 hr (Nat.le_of_ble_eq_true rfl) (Nat.le_of_ble_eq_true rfl) ⟨rfl, tw⟩
      · exact absurd (by rw [okU.2.2.2.2.2.2.1, hn]; exact Int32.le_refl _) c7
    | succ n ih =>
      intro k h1 H locs ls hn tw w hl
      have okU := ok0.ll k
      have eU : tl_l T np nm (k + 1) = tl_1 (tw_cn (tl_l T np nm k) ((tl_l T np nm k).2 14 k) np nm) np k := rfl
      generalize tl_l T np nm k = U at tw okU eU
      refine ro_iload_n X hl dX3_looks_2 rfl ?_
      refine ro_aload_n X hl dX3_looks_3 rfl (by first | exact Or.inr ⟨_, rfl⟩ | exact Or.inl rfl | exact va_rf_or _) ?_
      refine gf_X3_133 X w dX3_looks_4 tw.o rfl ?_
      refine lv_icmp_ge (tgt := 53) X.1 X.2.1 dX3_looks_7 (by decide) (fun c7 => ?_) (fun c7 => ?_)
      · exact absurd c7 (by rw [okU.2.2.2.2.2.2.1]; exact nI_ge (by omega) (by omega))
      · refine ro_aload_n X hl dX3_looks_10 rfl (by first | exact Or.inr ⟨_, rfl⟩ | exact Or.inl rfl | exact va_rf_or _) ?_
        refine ro_aload_n X hl dX3_looks_11 rfl (by first | exact Or.inr ⟨_, rfl⟩ | exact Or.inl rfl | exact va_rf_or _) ?_
        refine gf_X3_37 X w dX3_looks_12 tw.o rfl ?_
        refine ro_iload_n X hl dX3_looks_15 rfl ?_
        refine ro_ialdE X w dX3_looks_16 (tw.ar 14 (n := 36) rfl rfl) rfl (by omega) (by decide) ?_
        refine ro_kV (cs_X3_126 X w tw.o (mt_X3_counts tw.1 okU) rfl rfl hl ⟨⟨Nat.le_of_ble_eq_true rfl, Nat.le_of_ble_eq_true rfl⟩, Nat.le_of_ble_eq_true rfl, Nat.le_of_ble_eq_true rfl⟩ (Nat.le_of_ble_eq_true rfl) dX3_looks_17) w (fun h H locs hp17 w => ?_)
        have tw := tw.tr hp17
        have okV := okU.sm (tw_cn_sm U (U.2 14 k) np nm)
        have eS : (tw_cn U (U.2 14 k) np nm).2 15 = U.2 15 := (tw_cn_sm U (U.2 14 k) np nm).2 15 (by decide) (by decide) (by decide)
        refine ro_aload_n X hl dX3_looks_20 rfl (by first | exact Or.inr ⟨_, rfl⟩ | exact Or.inl rfl | exact va_rf_or _) ?_
        refine ro_aload_n X hl dX3_looks_21 rfl (by first | exact Or.inr ⟨_, rfl⟩ | exact Or.inl rfl | exact va_rf_or _) ?_
        refine gf_X3_40 X w dX3_looks_22 tw.o rfl ?_
        refine ro_iload_n X hl dX3_looks_25 rfl ?_
        refine ro_ialdE X w dX3_looks_26 (tw.ar 15 (n := 36) rfl rfl) rfl (by omega) (by decide) ?_
        refine ro_kJ (cs_X3_130 X w tw.o (mt_X3_who tw.1 okV.1 okV.2.1) rfl rfl hl ⟨⟨Nat.le_of_ble_eq_true rfl, Nat.le_of_ble_eq_true rfl⟩, Nat.le_of_ble_eq_true rfl, Nat.le_of_ble_eq_true rfl⟩ (Nat.le_of_ble_eq_true rfl) dX3_looks_27) w (fun H locs w => ?_)
        refine ro_istore_n X hl dX3_looks_30 (by decide) (fun ls hl => ?_)
        refine ro_iload_n X hl dX3_looks_31 rfl ?_
        refine ro_aload_n X hl dX3_looks_32 rfl (by first | exact Or.inr ⟨_, rfl⟩ | exact Or.inl rfl | exact va_rf_or _) ?_
        refine gf_X3_43 X w dX3_looks_33 tw.o rfl ?_
        refine ro_iload_n X hl dX3_looks_36 rfl ?_
        refine ro_ialdE X w dX3_looks_37 (tw.ar 16 (n := 36) rfl rfl) rfl (by omega) (by decide) ?_
        refine lv_icmp_eq (tgt := 47) X.1 X.2.1 dX3_looks_38 (by decide) (fun c38 => ?_) (fun c38 => ?_)
        · have tw := tw.cast (eU.trans (if_pos c38))
          refine ro_iinc X hl dX3_looks_47 (by decide) rfl (fun ls hl => ?_)
          rw [hp_ni] at hl
          refine lv_goto (tgt := 2) X.1 X.2.1 dX3_looks_50 (by decide) ?_
          refine ih (k + 1) _ _ _ _ (by omega) tw w (hl.mask [true, true, false])
        · refine ro_aload_n X hl dX3_looks_41 rfl (by first | exact Or.inr ⟨_, rfl⟩ | exact Or.inl rfl | exact va_rf_or _) ?_
          refine ro_iload_n X hl dX3_looks_42 rfl ?_
          refine ro_iload_n X hl dX3_looks_43 rfl ?_
          refine ro_kV (cs_X3_143 X w tw.o (mt_X3_inherits tw.1 okV (k := k) (by omega) (tw_who_px _ _ o2 _)) rfl rfl hl ⟨⟨Nat.le_of_ble_eq_true rfl, Nat.le_of_ble_eq_true rfl⟩, Nat.le_of_ble_eq_true rfl, Nat.le_of_ble_eq_true rfl⟩ (Nat.le_of_ble_eq_true rfl) dX3_looks_44) w (fun h H locs hp44 w => ?_)
          have tw := tw.tr hp44
          have tw := tw.cast (eU.trans (if_neg c38))
          refine ro_iinc X hl dX3_looks_47 (by decide) rfl (fun ls hl => ?_)
          rw [hp_ni] at hl
          refine lv_goto (tgt := 2) X.1 X.2.1 dX3_looks_50 (by decide) ?_
          refine ih (k + 1) _ _ _ _ (by omega) tw w (hl.mask [true, true, false])
  exact key ns 0 _ _ _ ls (by omega) tw w hl
theorem mt_X3_proof {l : Launch} {G : hp_G} {B : Nat} {h : hp_H} {x : Nat} {ad : Nat → Nat} {T : tw_T} {np nm se ns : Nat} {q f : Int32} (t0 : TW G x ad T h) (ok : tw_ok T np nm se ns) : hp_M l G B yX3_proof cX3_proof 5 (some .int) 5 0 0 [.ref x, .int q, .int f] h (hp_E (tw_api G x ad h T (tk_proof T q f) (tb_n (tu_proof (t9 T) np nm ns q f) nm) (tu_proof (t9 T) np nm ns q f))) := by
  refine hp_M.of (by decide) 2 (List.forall_mem_cons.mpr ⟨rfl, (List.forall_mem_cons.mpr ⟨rfl, (List.forall_mem_cons.mpr ⟨rfl, (fun _ h => absurd h List.not_mem_nil)⟩)⟩)⟩) (Nat.le_of_ble_eq_true rfl) ?_
  intro p e s m below meth cd Q ls X hr hlk hnm w hl hQ
  have hl : hp_L ls 5 [some (.ref x), some (.int q), some (.int f), none, none] := hl
  have tw := t0.f
  have ok0 := ok
  obtain ⟨o1, o2, o3, o4, o5, o6, o7, o8, om, ok2, ol⟩ := ok
  have sm0 := tw_sm.rf T
  have J : ∀ (k : Int32) (H : Heap) (locs : List Loc) (ls : Array Slot), hp_Ws G B h s H locs → hp_L ls 5 [some (.ref x), some (.int q), some (.int f), none, none] → k = tk_proof T q f → W p l e (hp_rm 5 0 0) s m ([.ref x, .int q, .int f] : List Value).toArray below meth cd H locs 0 0 Q (F0 m 30 ls [.int k, .ref x]) := by
    intro k H locs ls w hl hk
    refine ro_kI (cs_X3_93 X w tw.o (mt_X3_fails tw.1) rfl rfl hl ⟨⟨Nat.le_of_ble_eq_true rfl, Nat.le_of_ble_eq_true rfl⟩, Nat.le_of_ble_eq_true rfl, Nat.le_of_ble_eq_true rfl⟩ (Nat.le_of_ble_eq_true rfl) dX3_proof_30) w (fun h H locs hp30 w => ?_)
    have tw := tw.tr hp30
    refine lv_if_eq (tgt := 38) X.1 X.2.1 dX3_proof_33 (by decide) (fun c33 => ?_) (fun c33 => ?_)
    · have hk0 := tk3_0 hk c33
      have hK := hk.symm.trans hk0
      subst hk0
      have z := tk3_z hK
      have pq := isb_px o1 (by omega) z.1
      have pq2 := pq.2
      have K1 : ∀ (v : Int32) (H : Heap) (locs : List Loc) (ls : Array Slot), hp_Ws G B h s H locs → hp_L ls 5 [some (.ref x), some (.int q), some (.int f), none, none] → v = (if T.2 2 (ix q) = -1 ∨ f < T.2 2 (ix q) then f else T.2 2 (ix q)) → W p l e (hp_rm 5 0 0) s m ([.ref x, .int q, .int f] : List Value).toArray below meth cd H locs (0 + 0) (0 + 0) Q (F0 m 73 ls [.int v, .int q, .ref (ad 2)]) := by
        intro v H locs ls w hl hv
        subst hv
        refine tw_iast X w tw 2 (n := 16) rfl rfl dX3_proof_73 pq.1 (by omega) (by decide) (fun h H locs w tw => ?_)
        have tw := tw.cast (show _ = tu_since (t9 T) q f from rfl)
        have okS : tw_ok (tu_since (t9 T) q f) np nm se ns := ok0
        refine ro_aload_n X hl dX3_proof_74 rfl (by first | exact Or.inr ⟨_, rfl⟩ | exact Or.inl rfl | exact va_rf_or _) ?_
        refine ro_kV (cs_X3_147 X w tw.o (mt_X3_looks tw.1 okS) rfl rfl hl ⟨⟨Nat.le_of_ble_eq_true rfl, Nat.le_of_ble_eq_true rfl⟩, Nat.le_of_ble_eq_true rfl, Nat.le_of_ble_eq_true rfl⟩ (Nat.le_of_ble_eq_true rfl) dX3_proof_75) w (fun h H locs hp75 w => ?_)
        have tw := tw.tr hp75
        refine lv_iconst (v := 0) X.1 X.2.1 dX3_proof_78 (by decide) ?_
        refine ro_istore_n X hl dX3_proof_79 (by decide) (fun ls hl => ?_)
        refine lv_iconst (v := 0) X.1 X.2.1 dX3_proof_80 (by decide) ?_
        refine ro_istore X hl dX3_proof_81 (by decide) (fun ls hl => ?_)
        have okU := okS.ll ns
        have eL : tl_l (tu_since (t9 T) q f) np nm ns = tu_proof (t9 T) np nm ns q f := rfl
        rw [eL] at okU
        have tw := tw.cast eL.symm
        have key : ∀ (n j : Nat) (H : Heap) (locs : List Loc) (ls : Array Slot), j + n = nm → hp_Ws G B h s H locs → hp_L ls 5 [some (.ref x), some (.int q), some (.int f), some (.int (tb_n (tu_proof (t9 T) np nm ns q f) j)), some (.int (nI j))] → W p l e (hp_rm 5 0 0) s m ([.ref x, .int q, .int f] : List Value).toArray below meth cd H locs (0 + 0) (0 + 0) Q (F0 m 83 ls []) := by
          intro n
          induction n with
          | zero =>
            intro j H locs ls hn w hl
            have hn : j = nm := by omega
            refine ro_iload X hl dX3_proof_83 rfl ?_
            refine ro_aload_n X hl dX3_proof_85 rfl (by first | exact Or.inr ⟨_, rfl⟩ | exact Or.inl rfl | exact va_rf_or _) ?_
            refine gf_X3_97 X w dX3_proof_86 tw.o rfl ?_
            refine lv_icmp_ge (tgt := 115) X.1 X.2.1 dX3_proof_89 (by decide) (fun c89 => ?_) (fun c89 => ?_)
            · subst hn
              refine ro_iload_n X hl dX3_proof_115 rfl ?_
              exact ro_retI X w hQ hlk dX3_proof_116 hr rfl (Nat.le_of_ble_eq_true rfl) (Nat.le_of_ble_eq_true rfl) (tw_yes tw hK (congrFun (tl_l_1 _ _ _ _) 29) rfl (tw_sm.rf _))
            · exact absurd (by rw [okU.2.2.1, hn]; exact Int32.le_refl _) c89
          | succ n ih =>
            intro j H locs ls hn w hl
            have J2 : ∀ (v : Int32) (H : Heap) (locs : List Loc), hp_Ws G B h s H locs → v = bz (tw_gd (tu_proof (t9 T) np nm ns q f) j = 0) → W p l e (hp_rm 5 0 0) s m ([.ref x, .int q, .int f] : List Value).toArray below meth cd H locs (0 + 0) (0 + 0) Q (F0 m 107 ls [.int v, .int (tb_n (tu_proof (t9 T) np nm ns q f) j)]) := by
              intro v H locs w hv
              refine lv_iadd X.1 X.2.1 dX3_proof_107 ?_
              refine ro_istore_n X hl dX3_proof_108 (by decide) (fun ls hl => ?_)
              refine ro_iinc X hl dX3_proof_109 (by decide) rfl (fun ls hl => ?_)
              rw [hp_ni, hv] at hl
              refine lv_goto (tgt := 83) X.1 X.2.1 dX3_proof_112 (by decide) ?_
              exact ih (j + 1) _ _ _ (by omega) w hl
            refine ro_iload X hl dX3_proof_83 rfl ?_
            refine ro_aload_n X hl dX3_proof_85 rfl (by first | exact Or.inr ⟨_, rfl⟩ | exact Or.inl rfl | exact va_rf_or _) ?_
            refine gf_X3_97 X w dX3_proof_86 tw.o rfl ?_
            refine lv_icmp_ge (tgt := 115) X.1 X.2.1 dX3_proof_89 (by decide) (fun c89 => ?_) (fun c89 => ?_)
            · exact absurd c89 (by rw [okU.2.2.1]; exact nI_ge (by omega) (by omega))
            · refine ro_iload_n X hl dX3_proof_92 rfl ?_
              refine ro_aload_n X hl dX3_proof_93 rfl (by first | exact Or.inr ⟨_, rfl⟩ | exact Or.inl rfl | exact va_rf_or _) ?_
              refine ro_iload X hl dX3_proof_94 rfl ?_
              refine ro_kJ (cs_X3_116 X w tw.o (mt_X3_isGood tw.1 okU (j := j) (by omega)) rfl rfl hl ⟨⟨Nat.le_of_ble_eq_true rfl, Nat.le_of_ble_eq_true rfl⟩, Nat.le_of_ble_eq_true rfl, Nat.le_of_ble_eq_true rfl⟩ (Nat.le_of_ble_eq_true rfl) dX3_proof_96) w (fun H locs w => ?_)
              refine lv_if_eq (tgt := 106) X.1 X.2.1 dX3_proof_99 (by decide) (fun c99 => ?_) (fun c99 => ?_)
              · refine lv_iconst (v := 1) X.1 X.2.1 dX3_proof_106 (by decide) ?_
                exact J2 _ _ _ w (bz_t c99).symm
              · refine lv_iconst (v := 0) X.1 X.2.1 dX3_proof_102 (by decide) ?_
                refine lv_goto (tgt := 107) X.1 X.2.1 dX3_proof_103 (by decide) ?_
                exact J2 _ _ _ w (bz_f c99).symm
        exact key nm 0 _ _ ls (by omega) w hl
      refine ro_aload_n X hl dX3_proof_38 rfl (by first | exact Or.inr ⟨_, rfl⟩ | exact Or.inl rfl | exact va_rf_or _) ?_
      refine gf_X3_7 X w dX3_proof_39 tw.o rfl ?_
      refine ro_iload_n X hl dX3_proof_42 rfl ?_
      refine ro_aload_n X hl dX3_proof_43 rfl (by first | exact Or.inr ⟨_, rfl⟩ | exact Or.inl rfl | exact va_rf_or _) ?_
      refine gf_X3_7 X w dX3_proof_44 tw.o rfl ?_
      refine ro_iload_n X hl dX3_proof_47 rfl ?_
      refine ro_ialdE X w dX3_proof_48 (tw.ar 2 (n := 16) rfl rfl) pq.1 (by omega) (by decide) ?_
      refine lv_iconst (v := (-1)) X.1 X.2.1 dX3_proof_49 (by decide) ?_
      refine lv_icmp_eq (tgt := 63) X.1 X.2.1 dX3_proof_50 (by decide) (fun c50 => ?_) (fun c50 => ?_)
      · refine ro_iload_n X hl dX3_proof_63 rfl ?_
        refine lv_goto (tgt := 73) X.1 X.2.1 dX3_proof_64 (by decide) ?_
        exact K1 _ _ _ ls w (hl.mask [true, true, true, false, false]) (if_pos (Or.inl c50)).symm
      · refine ro_iload_n X hl dX3_proof_53 rfl ?_
        refine ro_aload_n X hl dX3_proof_54 rfl (by first | exact Or.inr ⟨_, rfl⟩ | exact Or.inl rfl | exact va_rf_or _) ?_
        refine gf_X3_7 X w dX3_proof_55 tw.o rfl ?_
        refine ro_iload_n X hl dX3_proof_58 rfl ?_
        refine ro_ialdE X w dX3_proof_59 (tw.ar 2 (n := 16) rfl rfl) pq.1 (by omega) (by decide) ?_
        refine lv_icmp_ge (tgt := 67) X.1 X.2.1 dX3_proof_60 (by decide) (fun c60 => ?_) (fun c60 => ?_)
        · refine ro_aload_n X hl dX3_proof_67 rfl (by first | exact Or.inr ⟨_, rfl⟩ | exact Or.inl rfl | exact va_rf_or _) ?_
          refine gf_X3_7 X w dX3_proof_68 tw.o rfl ?_
          refine ro_iload_n X hl dX3_proof_71 rfl ?_
          refine ro_ialdE X w dX3_proof_72 (tw.ar 2 (n := 16) rfl rfl) pq.1 (by omega) (by decide) ?_
          exact K1 _ _ _ ls w (hl.mask [true, true, true, false, false]) (if_neg (fun z => z.elim c50 (fun z => absurd z (Int32.not_lt.mpr c60)))).symm
        · refine ro_iload_n X hl dX3_proof_63 rfl ?_
          refine lv_goto (tgt := 73) X.1 X.2.1 dX3_proof_64 (by decide) ?_
          exact K1 _ _ _ ls w (hl.mask [true, true, true, false, false]) (if_pos (Or.inr (Int32.not_le.mp c60))).symm
    · have hKn := tk3_n hk c33
      refine lv_iconst (v := 0) X.1 X.2.1 dX3_proof_36 (by decide) ?_
      exact ro_retI X w hQ hlk dX3_proof_37 hr rfl (Nat.le_of_ble_eq_true rfl) (Nat.le_of_ble_eq_true rfl) (tw_no tw hk hKn)
  refine ro_aload_n X hl dX3_proof_0 rfl (by first | exact Or.inr ⟨_, rfl⟩ | exact Or.inl rfl | exact va_rf_or _) ?_
  refine ro_aload_n X hl dX3_proof_1 rfl (by first | exact Or.inr ⟨_, rfl⟩ | exact Or.inl rfl | exact va_rf_or _) ?_
  refine ro_iload_n X hl dX3_proof_2 rfl ?_
  refine ro_kJ (cs_X3_107 X w tw.o (mt_X3_isPlayer tw.1) rfl rfl hl ⟨⟨Nat.le_of_ble_eq_true rfl, Nat.le_of_ble_eq_true rfl⟩, Nat.le_of_ble_eq_true rfl, Nat.le_of_ble_eq_true rfl⟩ (Nat.le_of_ble_eq_true rfl) dX3_proof_3) w (fun H locs w => ?_)
  refine lv_if_ne (tgt := 13) X.1 X.2.1 dX3_proof_6 (by decide) (fun c6 => ?_) (fun c6 => ?_)
  · refine ro_iload_n X hl dX3_proof_13 rfl ?_
    refine lv_iconst (v := 0) X.1 X.2.1 dX3_proof_14 (by decide) ?_
    refine ro_aload_n X hl dX3_proof_15 rfl (by first | exact Or.inr ⟨_, rfl⟩ | exact Or.inl rfl | exact va_rf_or _) ?_
    refine gf_X3_90 X w dX3_proof_16 tw.o rfl ?_
    refine ro_kJ (cs_X3_86 X w mt_X3_isIn rfl rfl hl ⟨⟨Nat.le_of_ble_eq_true rfl, Nat.le_of_ble_eq_true rfl⟩, Nat.le_of_ble_eq_true rfl, Nat.le_of_ble_eq_true rfl⟩ (Nat.le_of_ble_eq_true rfl) dX3_proof_19) w (fun H locs w => ?_)
    refine lv_if_eq (tgt := 29) X.1 X.2.1 dX3_proof_22 (by decide) (fun c22 => ?_) (fun c22 => ?_)
    · refine lv_iconst (v := 2) X.1 X.2.1 dX3_proof_29 (by decide) ?_
      exact J _ _ _ ls w (hl.mask [true, true, true, false, false]) (tk3_2 c6 c22)
    · refine lv_iconst (v := 0) X.1 X.2.1 dX3_proof_25 (by decide) ?_
      refine lv_goto (tgt := 30) X.1 X.2.1 dX3_proof_26 (by decide) ?_
      exact J _ _ _ ls w (hl.mask [true, true, true, false, false]) (tk3_4 c6 c22 (fun q => q))
  · refine lv_iconst (v := 1) X.1 X.2.1 dX3_proof_9 (by decide) ?_
    refine lv_goto (tgt := 30) X.1 X.2.1 dX3_proof_10 (by decide) ?_
    exact J _ _ _ ls w (hl.mask [true, true, true, false, false]) (tk3_1 c6)
theorem mt_X3_clear {l : Launch} {G : hp_G} {B : Nat} {h : hp_H} {x : Nat} {ad : Nat → Nat} {T : tw_T} {np nm se ns : Nat} {q : Int32} (t0 : TW G x ad T h) (ok : tw_ok T np nm se ns) : hp_M l G B yX3_clear cX3_clear 3 (some .int) 5 0 0 [.ref x, .int q] h (hp_E (tw_api G x ad h T (tk_clear T q) (T.2 2 (ix q)) (tu_clear (t9 T) np nm ns q))) := by
  refine hp_M.of (by decide) 1 (List.forall_mem_cons.mpr ⟨rfl, (List.forall_mem_cons.mpr ⟨rfl, (fun _ h => absurd h List.not_mem_nil)⟩)⟩) (Nat.le_of_ble_eq_true rfl) ?_
  intro p e s m below meth cd Q ls X hr hlk hnm w hl hQ
  have hl : hp_L ls 3 [some (.ref x), some (.int q), none] := hl
  have tw := t0.f
  have ok0 := ok
  obtain ⟨o1, o2, o3, o4, o5, o6, o7, o8, om, ok2, ol⟩ := ok
  have sm0 := tw_sm.rf T
  have J : ∀ (k : Int32) (H : Heap) (locs : List Loc) (ls : Array Slot), hp_Ws G B h s H locs → hp_L ls 3 [some (.ref x), some (.int q), none] → k = tk_clear T q → W p l e (hp_rm 5 0 0) s m ([.ref x, .int q] : List Value).toArray below meth cd H locs 0 0 Q (F0 m 28 ls [.int k, .ref x]) := by
    intro k H locs ls w hl hk
    refine ro_kI (cs_X3_93 X w tw.o (mt_X3_fails tw.1) rfl rfl hl ⟨⟨Nat.le_of_ble_eq_true rfl, Nat.le_of_ble_eq_true rfl⟩, Nat.le_of_ble_eq_true rfl, Nat.le_of_ble_eq_true rfl⟩ (Nat.le_of_ble_eq_true rfl) dX3_clear_28) w (fun h H locs hp28 w => ?_)
    have tw := tw.tr hp28
    refine lv_if_eq (tgt := 36) X.1 X.2.1 dX3_clear_31 (by decide) (fun c31 => ?_) (fun c31 => ?_)
    · have hk0 := tk3_0 hk c31
      have hK := hk.symm.trans hk0
      subst hk0
      have z := tk3_z hK
      have pq := isb_px o1 (by omega) z.1
      have pq2 := pq.2
      refine ro_aload_n X hl dX3_clear_36 rfl (by first | exact Or.inr ⟨_, rfl⟩ | exact Or.inl rfl | exact va_rf_or _) ?_
      refine gf_X3_7 X w dX3_clear_37 tw.o rfl ?_
      refine ro_iload_n X hl dX3_clear_40 rfl ?_
      refine ro_ialdE X w dX3_clear_41 (tw.ar 2 (n := 16) rfl rfl) pq.1 (by omega) (by decide) ?_
      refine ro_istore_n X hl dX3_clear_42 (by decide) (fun ls hl => ?_)
      refine ro_aload_n X hl dX3_clear_43 rfl (by first | exact Or.inr ⟨_, rfl⟩ | exact Or.inl rfl | exact va_rf_or _) ?_
      refine gf_X3_7 X w dX3_clear_44 tw.o rfl ?_
      refine ro_iload_n X hl dX3_clear_47 rfl ?_
      refine lv_iconst (v := (-1)) X.1 X.2.1 dX3_clear_48 (by decide) ?_
      refine tw_iast X w tw 2 (n := 16) rfl rfl dX3_clear_49 pq.1 (by omega) (by decide) (fun h H locs w tw => ?_)
      have tw := tw.cast (show tw_a (t9 T) 2 (ix q) (-1) = _ from rfl)
      have okS : tw_ok (tw_a (t9 T) 2 (ix q) (-1)) np nm se ns := ok0
      refine ro_aload_n X hl dX3_clear_50 rfl (by first | exact Or.inr ⟨_, rfl⟩ | exact Or.inl rfl | exact va_rf_or _) ?_
      refine ro_kV (cs_X3_147 X w tw.o (mt_X3_looks tw.1 okS) rfl rfl hl ⟨⟨Nat.le_of_ble_eq_true rfl, Nat.le_of_ble_eq_true rfl⟩, Nat.le_of_ble_eq_true rfl, Nat.le_of_ble_eq_true rfl⟩ (Nat.le_of_ble_eq_true rfl) dX3_clear_51) w (fun h H locs hp51 w => ?_)
      have tw := tw.tr hp51
      refine ro_iload_n X hl dX3_clear_54 rfl ?_
      exact ro_retI X w hQ hlk dX3_clear_55 hr rfl (Nat.le_of_ble_eq_true rfl) (Nat.le_of_ble_eq_true rfl) (tw_yes tw hK (congrFun (tl_l_1 _ _ _ _) 29) rfl (tw_sm.rf _))
    · have hKn := tk3_n hk c31
      refine lv_iconst (v := 0) X.1 X.2.1 dX3_clear_34 (by decide) ?_
      exact ro_retI X w hQ hlk dX3_clear_35 hr rfl (Nat.le_of_ble_eq_true rfl) (Nat.le_of_ble_eq_true rfl) (tw_no tw hk hKn)
  refine ro_aload_n X hl dX3_clear_0 rfl (by first | exact Or.inr ⟨_, rfl⟩ | exact Or.inl rfl | exact va_rf_or _) ?_
  refine ro_aload_n X hl dX3_clear_1 rfl (by first | exact Or.inr ⟨_, rfl⟩ | exact Or.inl rfl | exact va_rf_or _) ?_
  refine ro_iload_n X hl dX3_clear_2 rfl ?_
  refine ro_kJ (cs_X3_107 X w tw.o (mt_X3_isPlayer tw.1) rfl rfl hl ⟨⟨Nat.le_of_ble_eq_true rfl, Nat.le_of_ble_eq_true rfl⟩, Nat.le_of_ble_eq_true rfl, Nat.le_of_ble_eq_true rfl⟩ (Nat.le_of_ble_eq_true rfl) dX3_clear_3) w (fun H locs w => ?_)
  refine lv_if_ne (tgt := 13) X.1 X.2.1 dX3_clear_6 (by decide) (fun c6 => ?_) (fun c6 => ?_)
  · have pq := isb_px o1 (by omega) c6
    have pq2 := pq.2
    refine ro_aload_n X hl dX3_clear_13 rfl (by first | exact Or.inr ⟨_, rfl⟩ | exact Or.inl rfl | exact va_rf_or _) ?_
    refine gf_X3_7 X w dX3_clear_14 tw.o rfl ?_
    refine ro_iload_n X hl dX3_clear_17 rfl ?_
    refine ro_ialdE X w dX3_clear_18 (tw.ar 2 (n := 16) rfl rfl) pq.1 (by omega) (by decide) ?_
    refine lv_iconst (v := (-1)) X.1 X.2.1 dX3_clear_19 (by decide) ?_
    refine lv_icmp_ne (tgt := 27) X.1 X.2.1 dX3_clear_20 (by decide) (fun c20 => ?_) (fun c20 => ?_)
    · refine lv_iconst (v := 0) X.1 X.2.1 dX3_clear_27 (by decide) ?_
      exact J _ _ _ ls w (hl.mask [true, true, false]) (tk3_4 c6 c20 (fun q => q))
    · refine lv_iconst (v := 2) X.1 X.2.1 dX3_clear_23 (by decide) ?_
      refine lv_goto (tgt := 28) X.1 X.2.1 dX3_clear_24 (by decide) ?_
      exact J _ _ _ ls w (hl.mask [true, true, false]) (tk3_2 c6 c20)
  · refine lv_iconst (v := 1) X.1 X.2.1 dX3_clear_9 (by decide) ?_
    refine lv_goto (tgt := 28) X.1 X.2.1 dX3_clear_10 (by decide) ?_
    exact J _ _ _ ls w (hl.mask [true, true, false]) (tk3_1 c6)
theorem mt_X3_ranked {l : Launch} {G : hp_G} {B : Nat} {h : hp_H} {x : Nat} {ad : Nat → Nat} {T : tw_T} {np nm se ns : Nat} {a q b : Int32} (t0 : TW G x ad T h) (ok : tw_ok T np nm se ns) : hp_M l G B yX3_ranked cX3_ranked 5 (some .int) 3 0 0 [.ref x, .int a, .int q, .int b] h (hp_E (tw_api G x ad h T (tk_ranked T a q b) (tv_ranked (t9 T) np nm a q b) (t9 T))) := by
  refine hp_M.of (by decide) 1 (List.forall_mem_cons.mpr ⟨rfl, (List.forall_mem_cons.mpr ⟨rfl, (List.forall_mem_cons.mpr ⟨rfl, (List.forall_mem_cons.mpr ⟨rfl, (fun _ h => absurd h List.not_mem_nil)⟩)⟩)⟩)⟩) (Nat.le_of_ble_eq_true rfl) ?_
  intro p e s m below meth cd Q ls X hr hlk hnm w hl hQ
  have hl : hp_L ls 5 [some (.ref x), some (.int a), some (.int q), some (.int b), none] := hl
  have tw := t0.f
  have ok0 := ok
  obtain ⟨o1, o2, o3, o4, o5, o6, o7, o8, om, ok2, ol⟩ := ok
  have sm0 := tw_sm.rf T
  have J : ∀ (k : Int32) (H : Heap) (locs : List Loc) (ls : Array Slot), hp_Ws G B h s H locs → hp_L ls 5 [some (.ref x), some (.int a), some (.int q), some (.int b), none] → k = tk_ranked T a q b → W p l e (hp_rm 3 0 0) s m ([.ref x, .int a, .int q, .int b] : List Value).toArray below meth cd H locs 0 0 Q (F0 m 51 ls [.int k, .ref x]) := by
    intro k H locs ls w hl hk
    refine ro_kI (cs_X3_93 X w tw.o (mt_X3_fails tw.1) rfl rfl hl ⟨⟨Nat.le_of_ble_eq_true rfl, Nat.le_of_ble_eq_true rfl⟩, Nat.le_of_ble_eq_true rfl, Nat.le_of_ble_eq_true rfl⟩ (Nat.le_of_ble_eq_true rfl) dX3_ranked_51) w (fun h H locs hp51 w => ?_)
    have tw := tw.tr hp51
    refine lv_if_eq (tgt := 59) X.1 X.2.1 dX3_ranked_54 (by decide) (fun c54 => ?_) (fun c54 => ?_)
    · have hk0 := tk3_0 hk c54
      have hK := hk.symm.trans hk0
      subst hk0
      have z := tk3_z hK
      have pq := isb_px o1 (by omega) (Decidable.not_not.mp z.1).2
      have pq2 := pq.2
      refine ro_aload_n X hl dX3_ranked_59 rfl (by first | exact Or.inr ⟨_, rfl⟩ | exact Or.inl rfl | exact va_rf_or _) ?_
      refine ro_iload_n X hl dX3_ranked_60 rfl ?_
      refine ro_kV (cs_X3_126 X w tw.o (mt_X3_counts tw.1 (show tw_ok (tw_s T 29 0) np nm se ns from ok0)) rfl rfl hl ⟨⟨Nat.le_of_ble_eq_true rfl, Nat.le_of_ble_eq_true rfl⟩, Nat.le_of_ble_eq_true rfl, Nat.le_of_ble_eq_true rfl⟩ (Nat.le_of_ble_eq_true rfl) dX3_ranked_61) w (fun h H locs hp61 w => ?_)
      have tw := tw.tr hp61
      have okC := ok0.sm (show tw_sm T (tw_cn (tw_s T 29 0) a np nm) from (sm0.s 29 0 (Or.inr rfl)).tr (tw_cn_sm _ _ _ _))
      refine ro_iload_n X hl dX3_ranked_64 rfl ?_
      refine lv_if_ne (tgt := 77) X.1 X.2.1 dX3_ranked_65 (by decide) (fun c65 => ?_) (fun c65 => ?_)
      · refine ro_iload_n X hl dX3_ranked_77 rfl ?_
        refine lv_iconst (v := 1) X.1 X.2.1 dX3_ranked_78 (by decide) ?_
        refine lv_icmp_ne (tgt := 91) X.1 X.2.1 dX3_ranked_79 (by decide) (fun c79 => ?_) (fun c79 => ?_)
        · refine ro_aload_n X hl dX3_ranked_91 rfl (by first | exact Or.inr ⟨_, rfl⟩ | exact Or.inl rfl | exact va_rf_or _) ?_
          refine ro_iload_n X hl dX3_ranked_92 rfl ?_
          refine ro_kJ (cs_X3_123 X w tw.o (mt_X3_placeOf' tw.1 okC.1 okC.2.1 pq) rfl rfl hl ⟨⟨Nat.le_of_ble_eq_true rfl, Nat.le_of_ble_eq_true rfl⟩, Nat.le_of_ble_eq_true rfl, Nat.le_of_ble_eq_true rfl⟩ (Nat.le_of_ble_eq_true rfl) dX3_ranked_93) w (fun H locs w => ?_)
          exact ro_retI X w hQ hlk dX3_ranked_96 hr rfl (Nat.le_of_ble_eq_true rfl) (Nat.le_of_ble_eq_true rfl) (tw_yes tw hK (congrFun (tw_cn_1 _ _ _ _) 29) (by unfold tv_ranked; first | exact (if_pos c65).symm | exact ((if_neg c65).trans (if_pos c79)).symm | exact ((if_neg c65).trans (if_neg c79)).symm) (tw_cn_sm _ _ _ _))
        · refine ro_aload_n X hl dX3_ranked_82 rfl (by first | exact Or.inr ⟨_, rfl⟩ | exact Or.inl rfl | exact va_rf_or _) ?_
          refine gf_X3_73 X w dX3_ranked_83 tw.o rfl ?_
          refine ro_iload_n X hl dX3_ranked_86 rfl ?_
          refine ro_ialdE X w dX3_ranked_87 (tw.ar 26 (n := 16) rfl rfl) pq.1 (by omega) (by decide) ?_
          refine lv_goto (tgt := 96) X.1 X.2.1 dX3_ranked_88 (by decide) ?_
          exact ro_retI X w hQ hlk dX3_ranked_96 hr rfl (Nat.le_of_ble_eq_true rfl) (Nat.le_of_ble_eq_true rfl) (tw_yes tw hK (congrFun (tw_cn_1 _ _ _ _) 29) (by unfold tv_ranked; first | exact (if_pos c65).symm | exact ((if_neg c65).trans (if_pos c79)).symm | exact ((if_neg c65).trans (if_neg c79)).symm) (tw_cn_sm _ _ _ _))
      · refine ro_aload_n X hl dX3_ranked_68 rfl (by first | exact Or.inr ⟨_, rfl⟩ | exact Or.inl rfl | exact va_rf_or _) ?_
        refine gf_X3_70 X w dX3_ranked_69 tw.o rfl ?_
        refine ro_iload_n X hl dX3_ranked_72 rfl ?_
        refine ro_ialdE X w dX3_ranked_73 (tw.ar 25 (n := 16) rfl rfl) pq.1 (by omega) (by decide) ?_
        refine lv_goto (tgt := 96) X.1 X.2.1 dX3_ranked_74 (by decide) ?_
        exact ro_retI X w hQ hlk dX3_ranked_96 hr rfl (Nat.le_of_ble_eq_true rfl) (Nat.le_of_ble_eq_true rfl) (tw_yes tw hK (congrFun (tw_cn_1 _ _ _ _) 29) (by unfold tv_ranked; first | exact (if_pos c65).symm | exact ((if_neg c65).trans (if_pos c79)).symm | exact ((if_neg c65).trans (if_neg c79)).symm) (tw_cn_sm _ _ _ _))
    · have hKn := tk3_n hk c54
      refine lv_iconst (v := 0) X.1 X.2.1 dX3_ranked_57 (by decide) ?_
      exact ro_retI X w hQ hlk dX3_ranked_58 hr rfl (Nat.le_of_ble_eq_true rfl) (Nat.le_of_ble_eq_true rfl) (tw_no tw hk hKn)
  have J1 : ∀ (v : Int32) (H : Heap) (locs : List Loc) (ls : Array Slot), hp_Ws G B h s H locs → hp_L ls 5 [some (.ref x), some (.int a), some (.int q), some (.int b), none] → v = bz (¬ isb 0 (T.1 12) a = 0 ∧ tPl T q) → W p l e (hp_rm 3 0 0) s m ([.ref x, .int a, .int q, .int b] : List Value).toArray below meth cd H locs 0 0 Q (F0 m 25 ls [.int v]) := by
    intro v H locs ls w hl hv
    subst hv
    refine ro_istore X hl dX3_ranked_25 (by decide) (fun ls hl => ?_)
    refine ro_aload_n X hl dX3_ranked_27 rfl (by first | exact Or.inr ⟨_, rfl⟩ | exact Or.inl rfl | exact va_rf_or _) ?_
    refine ro_iload X hl dX3_ranked_28 rfl ?_
    refine lv_if_ne (tgt := 37) X.1 X.2.1 dX3_ranked_30 (by decide) (fun c30 => ?_) (fun c30 => ?_)
    · refine ro_iload_n X hl dX3_ranked_37 rfl ?_
      refine lv_iconst (v := 0) X.1 X.2.1 dX3_ranked_38 (by decide) ?_
      refine lv_iconst (v := 2) X.1 X.2.1 dX3_ranked_39 (by decide) ?_
      refine ro_kJ (cs_X3_86 X w mt_X3_isIn rfl rfl hl ⟨⟨Nat.le_of_ble_eq_true rfl, Nat.le_of_ble_eq_true rfl⟩, Nat.le_of_ble_eq_true rfl, Nat.le_of_ble_eq_true rfl⟩ (Nat.le_of_ble_eq_true rfl) dX3_ranked_40) w (fun H locs w => ?_)
      refine lv_if_eq (tgt := 50) X.1 X.2.1 dX3_ranked_43 (by decide) (fun c43 => ?_) (fun c43 => ?_)
      · refine lv_iconst (v := 2) X.1 X.2.1 dX3_ranked_50 (by decide) ?_
        exact J _ _ _ ls w (hl.mask [true, true, true, true, false]) (tk3_2 (fun q => q (bz1 c30)) c43)
      · refine lv_iconst (v := 0) X.1 X.2.1 dX3_ranked_46 (by decide) ?_
        refine lv_goto (tgt := 51) X.1 X.2.1 dX3_ranked_47 (by decide) ?_
        exact J _ _ _ ls w (hl.mask [true, true, true, true, false]) (tk3_4 (fun q => q (bz1 c30)) c43 (fun q => q))
    · refine lv_iconst (v := 1) X.1 X.2.1 dX3_ranked_33 (by decide) ?_
      refine lv_goto (tgt := 51) X.1 X.2.1 dX3_ranked_34 (by decide) ?_
      exact J _ _ _ ls w (hl.mask [true, true, true, true, false]) (tk3_1 (bz0 c30))
  refine ro_iload_n X hl dX3_ranked_0 rfl ?_
  refine lv_iconst (v := 0) X.1 X.2.1 dX3_ranked_1 (by decide) ?_
  refine ro_aload_n X hl dX3_ranked_2 rfl (by first | exact Or.inr ⟨_, rfl⟩ | exact Or.inl rfl | exact va_rf_or _) ?_
  refine gf_X3_113 X w dX3_ranked_3 tw.o rfl ?_
  refine ro_kJ (cs_X3_86 X w mt_X3_isIn rfl rfl hl ⟨⟨Nat.le_of_ble_eq_true rfl, Nat.le_of_ble_eq_true rfl⟩, Nat.le_of_ble_eq_true rfl, Nat.le_of_ble_eq_true rfl⟩ (Nat.le_of_ble_eq_true rfl) dX3_ranked_6) w (fun H locs w => ?_)
  refine lv_if_eq (tgt := 24) X.1 X.2.1 dX3_ranked_9 (by decide) (fun c9 => ?_) (fun c9 => ?_)
  · refine lv_iconst (v := 0) X.1 X.2.1 dX3_ranked_24 (by decide) ?_
    exact J1 _ _ _ ls w hl (bz_f (fun q => q.1 c9)).symm
  · refine ro_aload_n X hl dX3_ranked_12 rfl (by first | exact Or.inr ⟨_, rfl⟩ | exact Or.inl rfl | exact va_rf_or _) ?_
    refine ro_iload_n X hl dX3_ranked_13 rfl ?_
    refine ro_kJ (cs_X3_107 X w tw.o (mt_X3_isPlayer tw.1) rfl rfl hl ⟨⟨Nat.le_of_ble_eq_true rfl, Nat.le_of_ble_eq_true rfl⟩, Nat.le_of_ble_eq_true rfl, Nat.le_of_ble_eq_true rfl⟩ (Nat.le_of_ble_eq_true rfl) dX3_ranked_14) w (fun H locs w => ?_)
    refine lv_if_eq (tgt := 24) X.1 X.2.1 dX3_ranked_17 (by decide) (fun c17 => ?_) (fun c17 => ?_)
    · refine lv_iconst (v := 0) X.1 X.2.1 dX3_ranked_24 (by decide) ?_
      exact J1 _ _ _ ls w hl (bz_f (fun q => q.2 c17)).symm
    · refine lv_iconst (v := 1) X.1 X.2.1 dX3_ranked_20 (by decide) ?_
      refine lv_goto (tgt := 25) X.1 X.2.1 dX3_ranked_21 (by decide) ?_
      exact J1 _ _ _ ls w hl (bz_t ⟨c9, c17⟩).symm
