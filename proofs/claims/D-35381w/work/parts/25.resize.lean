/-! LINKEDHASHMAP: resize (printed by tools/m25.py) -/
set_option maxRecDepth 100000
theorem LE.oth {G : hp_G} {t x c n cap th : Nat} {tb vals : Option Nat} {T N : Nat → Option Nat} {m0 : Int32} {hs ky vl ea : Nat → Nat} {h : hp_H} (l : LE G t x c n tb cap T m0 th vals N hs ky vl ea h) {q t' cp : Nat} {Tq : Nat → Option Nat} (hq : h q = some (t', hp_aq G 4 cp Tq)) (hne : ∀ a, tb = some a → q ≠ a) (y : Nat × hp_C) : LE G t x c n tb cap T m0 th vals N hs ky vl ea (hp_up h q y) := by
  refine ⟨(hp_up_n (hp_ne l.o hq (fun z => by cases z))).trans l.o, fun i hi => (hp_up_n (hp_ne (l.e i hi) hq (fun z => by cases z))).trans (l.e i hi), fun a ha => (hp_up_n (fun z => hne a ha z.symm)).trans (l.tt a ha), l.inj⟩
theorem aq_ne {G : hp_G} {h : hp_H} {a b t t' c c' : Nat} {f g : Nat → Option Nat} (ha : h a = some (t, hp_aq G 4 c f)) (hb : h b = some (t', hp_aq G 4 c' g)) (hc : c ≠ c') : a ≠ b := hp_ne ha hb (fun z => hc (by injection z with _ z; injection z with z; injection z with z; injection z with _ z; injection z with z))
/-- where the entries lie: buckets and nexts -/
def HC (cnt cap : Nat) (T N : Nat → Option Nat) (hs ea : Nat → Nat) : Prop := (∃ F : Nat → Option Nat, ∀ b, b < cap → T b = (F b).map ea ∧ FI (fun k => hs k % cap = b) 0 cnt (F b)) ∧ ∀ k, k < cnt → FIc cnt cap hs k (N k)
theorem TBt.hc {cnt cap : Nat} {T2 N : Nat → Option Nat} {hs ea : Nat → Nat} (hcap : 0 < cap) (h : TBt cnt cap cap T2 hs ea) (hN : ∀ k, k < cnt → hs k % cap < cap → FIc cnt (cap * 2) hs k (N k)) : HC cnt (cap * 2) T2 N hs ea := by
  obtain ⟨F2, hF⟩ := h
  exact ⟨⟨F2, fun b hb => ⟨(hF b hb).1, (hF b hb).2.1 (Nat.mod_lt _ hcap)⟩⟩, fun k hk => hN k hk (Nat.mod_lt _ hcap)⟩
theorem TBt.zero {cnt cap : Nat} {hs ea : Nat → Nat} : TBt cnt cap 0 (fun _ => none) hs ea := ⟨fun _ => none, fun b _ => ⟨rfl, fun q => absurd q (Nat.not_lt_zero _), fun _ => rfl⟩⟩
theorem la_none {P : Nat → Prop} {n : Nat} {o : Option Nat} (h : LA P n none) (h2 : FI P 0 n o) : o = none := by
  cases o with
  | none => rfl
  | some z => exact absurd h2.2.2.1 (h z h2.2.1)
theorem la_some {P : Nat → Prop} {n z : Nat} {o : Option Nat} (h : LA P n (some z)) (h2 : FI P 0 n o) : ∃ y, o = some y ∧ y < n := by
  cases o with
  | none => exact absurd h.2.1 (h2 z (Nat.zero_le _) h.1)
  | some y => exact ⟨y, rfl, h2.2.1⟩
theorem mt_J4_resize0 {l : Launch} {G : hp_G} {B : Nat} {h : hp_H} {x t c n cap : Nat} {vals : Option Nat} {T N : Nat → Option Nat} {m0 : Int32} {hs ky vl ea : Nat → Nat} (le : LE G t x c n none cap T m0 0 vals N hs ky vl ea h) (ht : t ≠ 0) : hp_M l G B yJ4_resize cJ4_resize 14 (some (.array (.object "java/util/HashMap$Node"))) 1 1 64 [.ref x] h (hp_E (fun r h1 => ∃ a, r = .ref a ∧ LE G t x c n (some a) 16 (fun _ => none) m0 12 vals N hs ky vl ea h1 ∧ hp_fr (fun q => q = t) h h1)) := by
  refine hp_M.of (by decide) 13 (List.forall_mem_cons.mpr ⟨rfl, (fun _ h => absurd h List.not_mem_nil)⟩) (Nat.le_of_ble_eq_true rfl) ?_
  intro p e s m below meth cd Q ls X hr hlk hnm w hl hQ
  have hl : hp_L ls 14 [some (.ref x), none, none, none, none, none, none, none, none, none, none, none, none, none] := hl
  refine ro_aload_n X hl dJ4_resize_0 rfl (by first | exact Or.inr ⟨_, rfl⟩ | exact Or.inl rfl | exact va_rf_or _) ?_
  refine gf_J4_105 X w dJ4_resize_1 le.o rfl ?_
  refine ro_astore_n X hl dJ4_resize_4 (by decide) (by first | exact Or.inr ⟨_, rfl⟩ | exact Or.inl rfl | exact va_rf_or _) (fun ls hl => ?_)
  refine ro_aload_n X hl dJ4_resize_5 rfl (by first | exact Or.inr ⟨_, rfl⟩ | exact Or.inl rfl | exact va_rf_or _) ?_
  refine lv_ifnonnullN X.1 X.2.1 dJ4_resize_6 ?_
  refine lv_iconst (v := 0) X.1 X.2.1 dJ4_resize_9 (by decide) ?_
  refine lv_goto (tgt := 15) X.1 X.2.1 dJ4_resize_10 (by decide) ?_
  refine ro_istore_n X hl dJ4_resize_15 (by decide) (fun ls hl => ?_)
  refine ro_aload_n X hl dJ4_resize_16 rfl (by first | exact Or.inr ⟨_, rfl⟩ | exact Or.inl rfl | exact va_rf_or _) ?_
  refine gf_J4_88 X w dJ4_resize_17 le.o rfl ?_
  refine ro_istore_n X hl dJ4_resize_20 (by decide) (fun ls hl => ?_)
  refine lv_iconst (v := 0) X.1 X.2.1 dJ4_resize_21 (by decide) ?_
  refine ro_istore X hl dJ4_resize_22 (by decide) (fun ls hl => ?_)
  refine ro_iload_n X hl dJ4_resize_24 rfl ?_
  refine lv_if_le (tgt := 67) X.1 X.2.1 dJ4_resize_25 (by decide) (fun c25 => ?_) (fun c25 => ?_)
  · refine ro_iload_n X hl dJ4_resize_67 rfl ?_
    refine lv_if_le (tgt := 77) X.1 X.2.1 dJ4_resize_68 (by decide) (fun c68 => ?_) (fun c68 => ?_)
    · refine lv_bipush (v := 16) X.1 X.2.1 dJ4_resize_77 (by decide) ?_
      refine ro_istore X hl dJ4_resize_79 (by decide) (fun ls hl => ?_)
      refine lv_bipush (v := 12) X.1 X.2.1 dJ4_resize_81 (by decide) ?_
      refine ro_istore X hl dJ4_resize_83 (by decide) (fun ls hl => ?_)
      refine ro_iload X hl dJ4_resize_85 rfl ?_
      refine lv_if_ne (tgt := 125) X.1 X.2.1 dJ4_resize_87 (by decide) (fun c87 => ?_) (fun c87 => ?_)
      · refine ro_aload_n X hl dJ4_resize_125 rfl (by first | exact Or.inr ⟨_, rfl⟩ | exact Or.inl rfl | exact va_rf_or _) ?_
        refine ro_iload X hl dJ4_resize_126 rfl ?_
        refine pf_J4_88 X w dJ4_resize_128 rfl rfl le.o ht (Nat.le_of_ble_eq_true rfl) (fun H locs w => ?_)
        have le1 := le.own (n' := n) (m' := m0) (th' := 12) (vals' := vals) (L := (hm_o none n m0 0 vals (hm_hd c ea) (hm_tl c ea)).set 4 (.int 12)) rfl
        refine ro_iload X hl dJ4_resize_131 rfl ?_
        refine ro_anew X w (C := "java/util/HashMap$Node") q1001 w.1.2.2.2.1.2 4 rfl dJ4_resize_133 (n := 16) (N' := 16) (by decide) (by decide) t ht (by omega) (Nat.le_of_ble_eq_true rfl) (Nat.le_of_ble_eq_true rfl) (fun a H ha w => ?_)
        have le2 := le1.fresh (q := a) (y := (t, hp_aq G 4 16 (fun _ => none))) ha
        refine ro_astore X hl dJ4_resize_136 (by decide) (by first | exact Or.inr ⟨_, rfl⟩ | exact Or.inl rfl | exact va_rf_or _) (fun ls hl => ?_)
        refine ro_aload_n X hl dJ4_resize_138 rfl (by first | exact Or.inr ⟨_, rfl⟩ | exact Or.inl rfl | exact va_rf_or _) ?_
        refine ro_aload X hl dJ4_resize_139 rfl (by first | exact Or.inr ⟨_, rfl⟩ | exact Or.inl rfl | exact va_rf_or _) ?_
        refine pf_J4_105 X w dJ4_resize_141 rfl rfl le2.o ht (Nat.le_of_ble_eq_true rfl) (fun H locs w => ?_)
        have le3 := le2.retab (hp_up_s _ _ _) (L := (hm_o none n m0 12 vals (hm_hd c ea) (hm_tl c ea)).set 0 (.ref a)) rfl
        refine ro_aload_n X hl dJ4_resize_144 rfl (by first | exact Or.inr ⟨_, rfl⟩ | exact Or.inl rfl | exact va_rf_or _) ?_
        refine lv_ifnullN (tgt := 353) X.1 X.2.1 dJ4_resize_145 (by decide) ?_
        refine ro_aload X hl dJ4_resize_353 rfl (by first | exact Or.inr ⟨_, rfl⟩ | exact Or.inl rfl | exact va_rf_or _) ?_
        exact ro_retA X w hQ hlk dJ4_resize_355 hr (Or.inr ⟨_, rfl⟩) (by first | exact Or.inr ⟨_, rfl⟩ | exact Or.inl rfl | exact va_rf_or _) (Nat.le_of_ble_eq_true rfl) (Nat.le_of_ble_eq_true rfl) ⟨_, rfl, a, rfl, le3, ((hp_fu le.o).tr (hp_ff ha)).tr (hp_fu le2.o)⟩
      · exact absurd c87 (by decide)
    · exact absurd (by decide) c68
  · exact absurd (by decide) c25
set_option maxHeartbeats 4000000 in
theorem mt_J4_resizeN {l : Launch} {G : hp_G} {B : Nat} {h : hp_H} {x t c n cap th a0 : Nat} {vals : Option Nat} {T N : Nat → Option Nat} {m0 : Int32} {hs ky vl ea : Nat → Nat} (le : LE G t x c n (some a0) cap T m0 th vals N hs ky vl ea h) (ht : t ≠ 0) (hcth : (cap = 16 ∧ th = 12) ∨ (cap = 32 ∧ th = 24)) (hc0 : HC c cap T N hs ea) (hb : ∀ i, i < c → hs i < 64) : hp_M l G B yJ4_resize cJ4_resize 14 (some (.array (.object "java/util/HashMap$Node"))) 1 1 64 [.ref x] h (hp_E (fun r h1 => ∃ a T2 N2, r = .ref a ∧ LE G t x c n (some a) (cap * 2) T2 m0 (th * 2) vals N2 hs ky vl ea h1 ∧ HC c (cap * 2) T2 N2 hs ea ∧ hp_fr (fun q => q = t) h h1)) := by
  refine hp_M.of (by decide) 13 (List.forall_mem_cons.mpr ⟨rfl, (fun _ h => absurd h List.not_mem_nil)⟩) (Nat.le_of_ble_eq_true rfl) ?_
  intro p e s m below meth cd Q ls X hr hlk hnm w hl hQ
  have hl : hp_L ls 14 [some (.ref x), none, none, none, none, none, none, none, none, none, none, none, none, none] := hl
  have hc16 : 16 ≤ cap ∧ cap ≤ 32 := by rcases hcth with ⟨z, -⟩ | ⟨z, -⟩ <;> omega
  have hcap0 : 0 < cap := by omega
  have hcap : hm_cap (cap * 2) (th * 2) := by
    rcases hcth with ⟨z1, z2⟩ | ⟨z1, z2⟩
    · right; left; omega
    · right; right; omega
  obtain ⟨⟨F, hF⟩, hNc⟩ := hc0
  have ha0 := le.tt a0 rfl
  refine ro_aload_n X hl dJ4_resize_0 rfl (by first | exact Or.inr ⟨_, rfl⟩ | exact Or.inl rfl | exact va_rf_or _) ?_
  refine gf_J4_105 X w dJ4_resize_1 le.o rfl ?_
  refine ro_astore_n X hl dJ4_resize_4 (by decide) (by first | exact Or.inr ⟨_, rfl⟩ | exact Or.inl rfl | exact va_rf_or _) (fun ls hl => ?_)
  refine ro_aload_n X hl dJ4_resize_5 rfl (by first | exact Or.inr ⟨_, rfl⟩ | exact Or.inl rfl | exact va_rf_or _) ?_
  refine lv_ifnonnull (tgt := 13) X.1 X.2.1 dJ4_resize_6 (by decide) ?_
  refine ro_aload_n X hl dJ4_resize_13 rfl (by first | exact Or.inr ⟨_, rfl⟩ | exact Or.inl rfl | exact va_rf_or _) ?_
  refine ro_alenQ X w dJ4_resize_14 (k := 4) rfl ha0 ?_
  refine ro_istore_n X hl dJ4_resize_15 (by decide) (fun ls hl => ?_)
  refine ro_aload_n X hl dJ4_resize_16 rfl (by first | exact Or.inr ⟨_, rfl⟩ | exact Or.inl rfl | exact va_rf_or _) ?_
  refine gf_J4_88 X w dJ4_resize_17 le.o rfl ?_
  refine ro_istore_n X hl dJ4_resize_20 (by decide) (fun ls hl => ?_)
  refine lv_iconst (v := 0) X.1 X.2.1 dJ4_resize_21 (by decide) ?_
  refine ro_istore X hl dJ4_resize_22 (by decide) (fun ls hl => ?_)
  refine ro_iload_n X hl dJ4_resize_24 rfl ?_
  refine lv_if_le (tgt := 67) X.1 X.2.1 dJ4_resize_25 (by decide) (fun c25 => ?_) (fun c25 => ?_)
  · exact absurd c25 (by rw [show (0 : Int32) = nI 0 from rfl]; exact nI_ge (by omega) (by omega))
  · refine ro_iload_n X hl dJ4_resize_28 rfl ?_
    refine lv_ldc (v := 1073741824) X.1 X.2.1 X.2.2.2.1 (X.2.2.2.2 _ q998) dJ4_resize_29 ?_
    refine lv_icmp_lt (tgt := 42) X.1 X.2.1 dJ4_resize_31 (by decide) (fun c31 => ?_) (fun c31 => ?_)
    · refine ro_iload_n X hl dJ4_resize_42 rfl ?_
      refine lv_iconst (v := 1) X.1 X.2.1 dJ4_resize_43 (by decide) ?_
      refine lv_ishl X.1 X.2.1 dJ4_resize_44 ?_
      rw [show nI cap <<< ((1 : Int32) &&& 31) = nI (cap * 2) from pk_shlN (n := cap) (1 &&& 31) 1 rfl (by omega)]
      refine lv_dup X.1 X.2.1 dJ4_resize_45 rfl ?_
      refine ro_istore X hl dJ4_resize_46 (by decide) (fun ls hl => ?_)
      refine lv_ldc (v := 1073741824) X.1 X.2.1 X.2.2.2.1 (X.2.2.2.2 _ q998) dJ4_resize_48 ?_
      refine lv_icmp_ge (tgt := 85) X.1 X.2.1 dJ4_resize_50 (by decide) (fun c50 => ?_) (fun c50 => ?_)
      · exact absurd c50 (by rw [show (1073741824 : Int32) = nI 1073741824 from rfl]; exact nI_ge (by omega) (by decide))
      · refine ro_iload_n X hl dJ4_resize_53 rfl ?_
        refine lv_bipush (v := 16) X.1 X.2.1 dJ4_resize_54 (by decide) ?_
        refine lv_icmp_lt (tgt := 85) X.1 X.2.1 dJ4_resize_56 (by decide) (fun c56 => ?_) (fun c56 => ?_)
        · exact absurd c56 (by rw [show (16 : Int32) = nI 16 from rfl]; exact nI_nlt (by omega) (by omega))
        · refine ro_iload_n X hl dJ4_resize_59 rfl ?_
          refine lv_iconst (v := 1) X.1 X.2.1 dJ4_resize_60 (by decide) ?_
          refine lv_ishl X.1 X.2.1 dJ4_resize_61 ?_
          rw [show nI th <<< ((1 : Int32) &&& 31) = nI (th * 2) from pk_shlN (n := th) (1 &&& 31) 1 rfl (by omega)]
          refine ro_istore X hl dJ4_resize_62 (by decide) (fun ls hl => ?_)
          refine lv_goto (tgt := 85) X.1 X.2.1 dJ4_resize_64 (by decide) ?_
          refine ro_iload X hl dJ4_resize_85 rfl ?_
          refine lv_if_ne (tgt := 125) X.1 X.2.1 dJ4_resize_87 (by decide) (fun c87 => ?_) (fun c87 => ?_)
          · refine ro_aload_n X hl dJ4_resize_125 rfl (by first | exact Or.inr ⟨_, rfl⟩ | exact Or.inl rfl | exact va_rf_or _) ?_
            refine ro_iload X hl dJ4_resize_126 rfl ?_
            refine pf_J4_88 X w dJ4_resize_128 rfl rfl le.o ht (Nat.le_of_ble_eq_true rfl) (fun H locs w => ?_)
            have le1 := le.own (n' := n) (m' := m0) (th' := th * 2) (vals' := vals) (L := (hm_o (some a0) n m0 th vals (hm_hd c ea) (hm_tl c ea)).set 4 (.int (nI (th * 2)))) rfl
            refine ro_iload X hl dJ4_resize_131 rfl ?_
            refine ro_anew X w (C := "java/util/HashMap$Node") q1001 w.1.2.2.2.1.2 4 rfl dJ4_resize_133 (n := nI (cap * 2)) (N' := cap * 2) (nI_pos (by omega)) (nI_at (by omega)) t ht (by omega) (Nat.le_of_ble_eq_true rfl) (show 0 + cap * 2 ≤ 64 by omega) (fun a2 H ha2 w => ?_)
            have le2 := le1.fresh (q := a2) (y := (t, hp_aq G 4 (cap * 2) (fun _ => none))) ha2
            refine ro_astore X hl dJ4_resize_136 (by decide) (by first | exact Or.inr ⟨_, rfl⟩ | exact Or.inl rfl | exact va_rf_or _) (fun ls hl => ?_)
            refine ro_aload_n X hl dJ4_resize_138 rfl (by first | exact Or.inr ⟨_, rfl⟩ | exact Or.inl rfl | exact va_rf_or _) ?_
            refine ro_aload X hl dJ4_resize_139 rfl (by first | exact Or.inr ⟨_, rfl⟩ | exact Or.inl rfl | exact va_rf_or _) ?_
            refine pf_J4_105 X w dJ4_resize_141 rfl rfl le2.o ht (Nat.le_of_ble_eq_true rfl) (fun H locs w => ?_)
            have le3 := le2.retab (hp_up_s _ _ _) (L := (hm_o (some a0) n m0 (th * 2) vals (hm_hd c ea) (hm_tl c ea)).set 0 (.ref a2)) rfl
            have ha0' := hp_up_o (x := (t, hp_ob 9 ((hm_o (some a0) n m0 (th * 2) vals (hm_hd c ea) (hm_tl c ea)).set 0 (.ref a2)))) (le2.tt a0 rfl) le2.o (fun z => by cases z)
            have fr3 := ((hp_fu (x := (t, hp_ob 9 ((hm_o (some a0) n m0 th vals (hm_hd c ea) (hm_tl c ea)).set 4 (.int (nI (th * 2)))))) le.o).tr (hp_ff (x := (t, hp_aq G 4 (cap * 2) (fun _ => none))) ha2)).tr (hp_fu (x := (t, hp_ob 9 ((hm_o (some a0) n m0 (th * 2) vals (hm_hd c ea) (hm_tl c ea)).set 0 (.ref a2)))) le2.o)
            refine ro_aload_n X hl dJ4_resize_144 rfl (by first | exact Or.inr ⟨_, rfl⟩ | exact Or.inl rfl | exact va_rf_or _) ?_
            refine lv_ifnull X.1 X.2.1 dJ4_resize_145 ?_
            refine lv_iconst (v := 0) X.1 X.2.1 dJ4_resize_148 (by decide) ?_
            refine ro_istore X hl dJ4_resize_149 (by decide) (fun ls hl => ?_)
            have K : ∀ (f j : Nat) (T1 T2 N1 : Nat → Option Nat) (h1 : hp_H) (H : Heap) (locs : List Loc) (ls : Array Slot), cap ≤ f + j → j ≤ cap → h1 a0 = some (t, hp_aq G 4 cap T1) → (∀ b, j ≤ b → b < cap → T1 b = T b) → LE G t x c n (some a2) (cap * 2) (T2) m0 (th * 2) vals (N1) hs ky vl ea h1 → TBt c cap j T2 hs ea → (∀ k, k < c → hs k % cap < j → FIc c (cap * 2) hs k (N1 k)) → (∀ k, k < c → j ≤ hs k % cap → FIc c cap hs k (N1 k)) → hp_fr (fun q => q = t) h h1 → hp_Ws G B h1 s H locs → hp_L ls 14 [some (.ref x), some (.ref a0), some (.int (nI cap)), some (.int (nI th)), some (.int (nI (cap * 2))), some (.int (nI (th * 2))), some (.ref a2), some (.int (nI j)), none, none, none, none, none, none] → W p l e (hp_rm 1 1 64) s m ([.ref x] : List Value).toArray below meth cd H locs (0 + 1) (0 + cap * 2) Q (F0 m 151 ls []) := by
              intro f
              induction f with
              | zero =>
                intro j T1 T2 N1 h1 H locs ls hf hj ha1 hT1 le1 tb1 n1 n2 fr w hl
                have hj : cap = j := by omega
                subst hj
                refine ro_iload X hl dJ4_resize_151 rfl ?_
                refine ro_iload_n X hl dJ4_resize_153 rfl ?_
                refine lv_icmp_ge (tgt := 353) X.1 X.2.1 dJ4_resize_154 (by decide) (fun c154 => ?_) (fun c154 => ?_)
                · refine ro_aload X hl dJ4_resize_353 rfl (by first | exact Or.inr ⟨_, rfl⟩ | exact Or.inl rfl | exact va_rf_or _) ?_
                  exact ro_retA X w hQ hlk dJ4_resize_355 hr (Or.inr ⟨_, rfl⟩) (by first | exact Or.inr ⟨_, rfl⟩ | exact Or.inl rfl | exact va_rf_or _) (Nat.le_of_ble_eq_true rfl) (show 0 + cap * 2 ≤ 64 by omega) ⟨_, rfl, a2, T2, N1, rfl, le1, TBt.hc hcap0 tb1 n1, fr⟩
                · exact absurd (Int32.le_refl _) c154
              | succ f ih =>
                intro j T1 T2 N1 h1 H locs ls hf hj ha1 hT1 le1 tb1 n1 n2 fr w hl
                have E347 : ∀ (T1 T2 N1 : Nat → Option Nat) (h1 : hp_H) (H : Heap) (locs : List Loc) (ls : Array Slot), j < cap → h1 a0 = some (t, hp_aq G 4 cap T1) → (∀ b, j + 1 ≤ b → b < cap → T1 b = T b) → LE G t x c n (some a2) (cap * 2) (T2) m0 (th * 2) vals (N1) hs ky vl ea h1 → TBt c cap (j + 1) T2 hs ea → (∀ k, k < c → hs k % cap < j + 1 → FIc c (cap * 2) hs k (N1 k)) → (∀ k, k < c → j + 1 ≤ hs k % cap → FIc c cap hs k (N1 k)) → hp_fr (fun q => q = t) h h1 → hp_Ws G B h1 s H locs → hp_L ls 14 [some (.ref x), some (.ref a0), some (.int (nI cap)), some (.int (nI th)), some (.int (nI (cap * 2))), some (.int (nI (th * 2))), some (.ref a2), some (.int (nI j)), none, none, none, none, none, none] → W p l e (hp_rm 1 1 64) s m ([.ref x] : List Value).toArray below meth cd H locs (0 + 1) (0 + cap * 2) Q (F0 m 347 ls []) := by
                  intro T1 T2 N1 h1 H locs ls hjc ha1 hT1 le1 tb1 n1 n2 fr w hl
                  refine ro_iinc X hl dJ4_resize_347 (by decide) rfl (fun ls hl => ?_)
                  rw [hp_ni] at hl
                  refine lv_goto (tgt := 151) X.1 X.2.1 dJ4_resize_350 (by decide) ?_
                  exact ih (j + 1) T1 T2 N1 _ _ _ ls (by omega) (by omega) ha1 hT1 le1 tb1 n1 n2 fr w hl
                have E309 : ∀ (LH LT HH HT : Option Nat) (T1 N1 : Nat → Option Nat) (h1 : hp_H) (H : Heap) (locs : List Loc) (ls : Array Slot), j < cap → CSt c cap j c LH LT HH HT N1 hs → h1 a0 = some (t, hp_aq G 4 cap T1) → (∀ b, j + 1 ≤ b → b < cap → T1 b = T b) → LE G t x c n (some a2) (cap * 2) (T2) m0 (th * 2) vals (N1) hs ky vl ea h1 → hp_fr (fun q => q = t) h h1 → hp_Ws G B h1 s H locs → hp_L ls 14 [some (.ref x), some (.ref a0), some (.int (nI cap)), some (.int (nI th)), some (.int (nI (cap * 2))), some (.int (nI (th * 2))), some (.ref a2), some (.int (nI j)), none, some (va_rf (LH.map ea)), some (va_rf (LT.map ea)), some (va_rf (HH.map ea)), some (va_rf (HT.map ea)), none] → W p l e (hp_rm 1 1 64) s m ([.ref x] : List Value).toArray below meth cd H locs (0 + 1) (0 + cap * 2) Q (F0 m 309 ls []) := by
                  intro LH LT HH HT T1 N1 h1 H locs ls hjc cs ha1 hT1 le1 fr w hl
                  obtain ⟨q1, q2, q3, q4, -⟩ := id cs
                  obtain ⟨F2, hF2⟩ := id tb1
                  have J327 : ∀ (T3 N3 : Nat → Option Nat) (h1 : hp_H) (H : Heap) (locs : List Loc) (ls : Array Slot), h1 a0 = some (t, hp_aq G 4 cap T1) → LE G t x c n (some a2) (cap * 2) (T3) m0 (th * 2) vals (N3) hs ky vl ea h1 → T3 j = LH.map ea → (∀ b, b ≠ j → T3 b = T2 b) → (∀ k, (some k = LT → N3 k = none) ∧ (some k ≠ LT → N3 k = N1 k)) → hp_fr (fun q => q = t) h h1 → hp_Ws G B h1 s H locs → hp_L ls 14 [some (.ref x), some (.ref a0), some (.int (nI cap)), some (.int (nI th)), some (.int (nI (cap * 2))), some (.int (nI (th * 2))), some (.ref a2), some (.int (nI j)), none, some (va_rf (LH.map ea)), some (va_rf (LT.map ea)), some (va_rf (HH.map ea)), some (va_rf (HT.map ea)), none] → W p l e (hp_rm 1 1 64) s m ([.ref x] : List Value).toArray below meth cd H locs (0 + 1) (0 + cap * 2) Q (F0 m 327 ls []) := by
                    intro T3 N3 h1 H locs ls ha1 le1 e1 e2 hN3 fr w hl
                    refine ro_aload X hl dJ4_resize_327 rfl (by first | exact Or.inr ⟨_, rfl⟩ | exact Or.inl rfl | exact va_rf_or _) ?_
                    cases HT with
                    | none =>
                      have hHH := la_none q2 q4
                      subst hHH
                      refine lv_ifnullN (tgt := 347) X.1 X.2.1 dJ4_resize_329 (by decide) ?_
                      have fin := cs.fin hcap0 hjc (N2 := N3) (fun k => ⟨fun q => q.elim (fun z => (hN3 k).1 z) (fun z => by cases z), fun z1 _ => (hN3 k).2 z1⟩)
                      exact E347 T1 T3 N3 _ _ _ ls hjc ha1 hT1 le1 (tb1.put hcap0 hjc q3 q4 e1 (by rw [e2 (j + cap) (by omega), (hF2 (j + cap) (by omega)).1, (hF2 (j + cap) (by omega)).2.2 (by rw [Nat.add_mod_right, Nat.mod_eq_of_lt hjc]; omega)]) (fun b hb1 _ => e2 b hb1)) fin.1 fin.2 fr w (hl.mask [true, true, true, true, true, true, true, true, false, false, false, false, false, false])
                    | some lt =>
                      obtain ⟨lh, hHH, hlh⟩ := la_some q2 q4
                      subst hHH
                      have hlt := q2.1
                      refine lv_ifnull X.1 X.2.1 dJ4_resize_329 ?_
                      refine ro_aload X hl dJ4_resize_332 rfl (by first | exact Or.inr ⟨_, rfl⟩ | exact Or.inl rfl | exact va_rf_or _) ?_
                      refine lv_null X.1 X.2.1 dJ4_resize_334 ?_
                      refine pf_J4_177 X w dJ4_resize_335 rfl rfl (le1.e lt hlt) ht (Nat.le_of_ble_eq_true rfl) (fun H locs w => ?_)
                      have le2 := le1.next hlt none (L := (hm_e (hs lt) (ky lt) (vl lt) ((N3 lt).map ea) (hm_bf lt ea) (hm_af lt c ea)).set 3 .null) rfl
                      have ha2 := hp_up_o (x := (t, hp_ob 10 ((hm_e (hs lt) (ky lt) (vl lt) ((N3 lt).map ea) (hm_bf lt ea) (hm_af lt c ea)).set 3 .null))) ha1 (le1.e lt hlt) (fun z => by cases z)
                      have fr2 := fr.tr (hp_fu (x := (t, hp_ob 10 ((hm_e (hs lt) (ky lt) (vl lt) ((N3 lt).map ea) (hm_bf lt ea) (hm_af lt c ea)).set 3 .null))) (le1.e lt hlt))
                      refine ro_aload X hl dJ4_resize_338 rfl (by first | exact Or.inr ⟨_, rfl⟩ | exact Or.inl rfl | exact va_rf_or _) ?_
                      refine ro_iload X hl dJ4_resize_340 rfl ?_
                      refine ro_iload_n X hl dJ4_resize_342 rfl ?_
                      refine lv_iadd X.1 X.2.1 dJ4_resize_343 ?_
                      rw [nI_add]
                      refine ro_aload X hl dJ4_resize_344 rfl (by first | exact Or.inr ⟨_, rfl⟩ | exact Or.inl rfl | exact va_rf_or _) ?_
                      refine ro_aast X w dJ4_resize_346 (k := 4) (E := "java/util/HashMap$Node") rfl (le2.tt a2 rfl) ht (nI_inb (n := cap * 2) (by omega) (by omega)) (hp_any w (ci := 10) rfl (le2.e lh hlh) q2106) (fun H locs w => ?_)
                      rw [nI_at (by omega)] at w
                      have le3 := le2.tab rfl (j + cap) (some (ea lh))
                      have ha3 := hp_up_o (x := (t, hp_aq G 4 (cap * 2) (va_up T3 (j + cap) (some (ea lh))))) ha2 (le2.tt a2 rfl) (fun z => by injection z with _ z; injection z with z; injection z with z; injection z with _ z; injection z with z; omega)
                      have fr3 := fr2.tr (hp_fu (x := (t, hp_aq G 4 (cap * 2) (va_up T3 (j + cap) (some (ea lh))))) (le2.tt a2 rfl))
                      have fin := cs.fin hcap0 hjc (N2 := va_up N3 lt none) (fun k => ⟨fun q => by
                          by_cases z : k = lt
                          · subst z; exact va_up_s _ _ _
                          · rw [va_up_n _ _ z]; exact (hN3 k).1 (q.resolve_right (fun y => z (by cases y; rfl))), fun z1 z2 => (va_up_n _ _ (fun y => z2 (by rw [y]))).trans ((hN3 k).2 z1)⟩)
                      exact E347 T1 _ _ _ _ _ ls hjc ha3 hT1 le3 (tb1.put hcap0 hjc q3 q4 ((va_up_n _ _ (by omega)).trans e1) (va_up_s _ _ _) (fun b hb1 hb2 => (va_up_n _ _ hb2).trans (e2 b hb1))) fin.1 fin.2 fr3 w (hl.mask [true, true, true, true, true, true, true, true, false, false, false, false, false, false])
                  refine ro_aload X hl dJ4_resize_309 rfl (by first | exact Or.inr ⟨_, rfl⟩ | exact Or.inl rfl | exact va_rf_or _) ?_
                  cases LT with
                  | none =>
                    have hLH := la_none q1 q3
                    subst hLH
                    refine lv_ifnullN (tgt := 327) X.1 X.2.1 dJ4_resize_311 (by decide) ?_
                    exact J327 T2 N1 _ _ _ ls ha1 le1 (by rw [(hF2 j (by omega)).1, (hF2 j (by omega)).2.2 (by rw [Nat.mod_eq_of_lt hjc]; omega)]) (fun _ _ => rfl) (fun k => ⟨fun q => (by cases q), fun _ => rfl⟩) fr w hl
                  | some lt =>
                    obtain ⟨lh, hLH, hlh⟩ := la_some q1 q3
                    subst hLH
                    have hlt := q1.1
                    refine lv_ifnull X.1 X.2.1 dJ4_resize_311 ?_
                    refine ro_aload X hl dJ4_resize_314 rfl (by first | exact Or.inr ⟨_, rfl⟩ | exact Or.inl rfl | exact va_rf_or _) ?_
                    refine lv_null X.1 X.2.1 dJ4_resize_316 ?_
                    refine pf_J4_177 X w dJ4_resize_317 rfl rfl (le1.e lt hlt) ht (Nat.le_of_ble_eq_true rfl) (fun H locs w => ?_)
                    have le2 := le1.next hlt none (L := (hm_e (hs lt) (ky lt) (vl lt) ((N1 lt).map ea) (hm_bf lt ea) (hm_af lt c ea)).set 3 .null) rfl
                    have ha2 := hp_up_o (x := (t, hp_ob 10 ((hm_e (hs lt) (ky lt) (vl lt) ((N1 lt).map ea) (hm_bf lt ea) (hm_af lt c ea)).set 3 .null))) ha1 (le1.e lt hlt) (fun z => by cases z)
                    have fr2 := fr.tr (hp_fu (x := (t, hp_ob 10 ((hm_e (hs lt) (ky lt) (vl lt) ((N1 lt).map ea) (hm_bf lt ea) (hm_af lt c ea)).set 3 .null))) (le1.e lt hlt))
                    refine ro_aload X hl dJ4_resize_320 rfl (by first | exact Or.inr ⟨_, rfl⟩ | exact Or.inl rfl | exact va_rf_or _) ?_
                    refine ro_iload X hl dJ4_resize_322 rfl ?_
                    refine ro_aload X hl dJ4_resize_324 rfl (by first | exact Or.inr ⟨_, rfl⟩ | exact Or.inl rfl | exact va_rf_or _) ?_
                    refine ro_aast X w dJ4_resize_326 (k := 4) (E := "java/util/HashMap$Node") rfl (le2.tt a2 rfl) ht (nI_inb (n := cap * 2) (by omega) (by omega)) (hp_any w (ci := 10) rfl (le2.e lh hlh) q2106) (fun H locs w => ?_)
                    rw [nI_at (by omega)] at w
                    have le3 := le2.tab rfl (j) (some (ea lh))
                    have ha3 := hp_up_o (x := (t, hp_aq G 4 (cap * 2) (va_up T2 (j) (some (ea lh))))) ha2 (le2.tt a2 rfl) (fun z => by injection z with _ z; injection z with z; injection z with z; injection z with _ z; injection z with z; omega)
                    have fr3 := fr2.tr (hp_fu (x := (t, hp_aq G 4 (cap * 2) (va_up T2 (j) (some (ea lh))))) (le2.tt a2 rfl))
                    exact J327 _ _ _ _ _ ls ha3 le3 (va_up_s _ _ _) (fun b hb => va_up_n _ _ hb) (fun k => ⟨fun q => (by cases q; exact va_up_s _ _ _), fun q => va_up_n _ _ (fun z => q (by rw [z]))⟩) fr3 w hl
                have C : ∀ (g i : Nat) (LH LT HH HT : Option Nat) (T1 N1 : Nat → Option Nat) (h1 : hp_H) (H : Heap) (locs : List Loc) (ls : Array Slot), j < cap → c ≤ g + i → i < c → hs i % cap = j → CSt c cap j i LH LT HH HT N1 hs → h1 a0 = some (t, hp_aq G 4 cap T1) → (∀ b, j + 1 ≤ b → b < cap → T1 b = T b) → LE G t x c n (some a2) (cap * 2) (T2) m0 (th * 2) vals (N1) hs ky vl ea h1 → hp_fr (fun q => q = t) h h1 → hp_Ws G B h1 s H locs → hp_L ls 14 [some (.ref x), some (.ref a0), some (.int (nI cap)), some (.int (nI th)), some (.int (nI (cap * 2))), some (.int (nI (th * 2))), some (.ref a2), some (.int (nI j)), some (.ref (ea i)), some (va_rf (LH.map ea)), some (va_rf (LT.map ea)), some (va_rf (HH.map ea)), some (va_rf (HT.map ea)), none] → W p l e (hp_rm 1 1 64) s m ([.ref x] : List Value).toArray below meth cd H locs (0 + 1) (0 + cap * 2) Q (F0 m 235 ls []) := by
                  intro g
                  induction g with
                  | zero => intro i LH LT HH HT T1 N1 h1 H locs ls hjc hg hi; exact absurd hi (by omega)
                  | succ g ihg =>
                    intro i LH LT HH HT T1 N1 h1 H locs ls hjc hg hi him cs ha1 hT1 le1 fr w hl
                    have hNi : FIc c cap hs i (N1 i) := cs.2.2.2.2.2.2.1 i hi him (Nat.le_refl i)
                    have J301 : ∀ (LH LT HH HT : Option Nat) (N3 : Nat → Option Nat) (h1 : hp_H) (H : Heap) (locs : List Loc) (ls : Array Slot), CSt c cap j (i + 1) LH LT HH HT N3 hs → h1 a0 = some (t, hp_aq G 4 cap T1) → LE G t x c n (some a2) (cap * 2) (T2) m0 (th * 2) vals (N3) hs ky vl ea h1 → hp_fr (fun q => q = t) h h1 → hp_Ws G B h1 s H locs → hp_L ls 14 [some (.ref x), some (.ref a0), some (.int (nI cap)), some (.int (nI th)), some (.int (nI (cap * 2))), some (.int (nI (th * 2))), some (.ref a2), some (.int (nI j)), some (.ref (ea i)), some (va_rf (LH.map ea)), some (va_rf (LT.map ea)), some (va_rf (HH.map ea)), some (va_rf (HT.map ea)), some (va_rf ((N1 i).map ea))] → W p l e (hp_rm 1 1 64) s m ([.ref x] : List Value).toArray below meth cd H locs (0 + 1) (0 + cap * 2) Q (F0 m 301 ls []) := by
                      intro LH LT HH HT N3 h1 H locs ls cs ha1 le1 fr w hl
                      refine ro_aload X hl dJ4_resize_301 rfl (by first | exact Or.inr ⟨_, rfl⟩ | exact Or.inl rfl | exact va_rf_or _) ?_
                      refine lv_dup X.1 X.2.1 dJ4_resize_303 (hp_rf1 _) ?_
                      refine ro_astore X hl dJ4_resize_304 (by decide) (by first | exact Or.inr ⟨_, rfl⟩ | exact Or.inl rfl | exact va_rf_or _) (fun ls hl => ?_)
                      cases hNe : N1 i with
                      | none =>
                        rw [hNe] at hNi hl
                        refine lv_ifnonnullN X.1 X.2.1 dJ4_resize_306 ?_
                        exact E309 LH LT HH HT T1 N3 _ _ _ ls hjc (cs.skip hjc (by omega) (fun k h1 h2 e => hNi k h1 h2 (e.trans him.symm))) ha1 hT1 le1 fr w (hl.mask [true, true, true, true, true, true, true, true, false, true, true, true, true, false])
                      | some i2 =>
                        rw [hNe] at hNi hl
                        obtain ⟨g1, g2, g3, g4⟩ := hNi
                        refine lv_ifnonnull (tgt := 235) X.1 X.2.1 dJ4_resize_306 (by decide) ?_
                        exact ihg i2 LH LT HH HT T1 N3 _ _ _ ls hjc (by omega) g2 (g3.trans him) (cs.skip hjc (by omega) (fun k h1 h2 e => g4 k h1 h2 (e.trans him.symm))) ha1 hT1 le1 fr w (hl.mask [true, true, true, true, true, true, true, true, true, true, true, true, true, false])
                    have hbit := hm_bit hcth (hb i hi)
                    rw [him] at hbit
                    refine ro_aload X hl dJ4_resize_235 rfl (by first | exact Or.inr ⟨_, rfl⟩ | exact Or.inl rfl | exact va_rf_or _) ?_
                    refine gf_J4_177 X w dJ4_resize_237 (le1.e i hi) rfl ?_
                    refine ro_astore X hl dJ4_resize_240 (by decide) (by first | exact Or.inr ⟨_, rfl⟩ | exact Or.inl rfl | exact va_rf_or _) (fun ls hl => ?_)
                    refine ro_aload X hl dJ4_resize_242 rfl (by first | exact Or.inr ⟨_, rfl⟩ | exact Or.inl rfl | exact va_rf_or _) ?_
                    refine gf_J4_168 X w dJ4_resize_244 (le1.e i hi) rfl ?_
                    refine ro_iload_n X hl dJ4_resize_247 rfl ?_
                    refine lv_iand X.1 X.2.1 dJ4_resize_248 ?_
                    refine lv_if_ne (tgt := 278) X.1 X.2.1 dJ4_resize_249 (by decide) (fun c249 => ?_) (fun c249 => ?_)
                    · refine ro_aload X hl dJ4_resize_278 rfl (by first | exact Or.inr ⟨_, rfl⟩ | exact Or.inl rfl | exact va_rf_or _) ?_
                      have ehi : hs i % (cap * 2) = j + cap := hbit.2 c249
                      cases HT with
                      | none =>
                        refine lv_ifnonnullN X.1 X.2.1 dJ4_resize_280 ?_
                        refine ro_aload X hl dJ4_resize_283 rfl (by first | exact Or.inr ⟨_, rfl⟩ | exact Or.inl rfl | exact va_rf_or _) ?_
                        refine ro_astore X hl dJ4_resize_285 (by decide) (by first | exact Or.inr ⟨_, rfl⟩ | exact Or.inl rfl | exact va_rf_or _) (fun ls hl => ?_)
                        refine lv_goto (tgt := 297) X.1 X.2.1 dJ4_resize_287 (by decide) ?_
                        refine ro_aload X hl dJ4_resize_297 rfl (by first | exact Or.inr ⟨_, rfl⟩ | exact Or.inl rfl | exact va_rf_or _) ?_
                        refine ro_astore X hl dJ4_resize_299 (by decide) (by first | exact Or.inr ⟨_, rfl⟩ | exact Or.inl rfl | exact va_rf_or _) (fun ls hl => ?_)
                        exact J301 LH LT (some i) (some i) N1 _ _ _ ls (cs.hi1 hcap0 hi ehi him) ha1 le1 fr w hl
                      | some lt =>
                        refine lv_ifnonnull (tgt := 290) X.1 X.2.1 dJ4_resize_280 (by decide) ?_
                        refine ro_aload X hl dJ4_resize_290 rfl (by first | exact Or.inr ⟨_, rfl⟩ | exact Or.inl rfl | exact va_rf_or _) ?_
                        refine ro_aload X hl dJ4_resize_292 rfl (by first | exact Or.inr ⟨_, rfl⟩ | exact Or.inl rfl | exact va_rf_or _) ?_
                        have hlt : lt < c := Nat.lt_trans cs.2.1.1 hi
                        refine pf_J4_177 X w dJ4_resize_294 rfl rfl (le1.e lt hlt) ht (Nat.le_of_ble_eq_true rfl) (fun H locs w => ?_)
                        have le2 := le1.next hlt (some i) (L := (hm_e (hs lt) (ky lt) (vl lt) ((N1 lt).map ea) (hm_bf lt ea) (hm_af lt c ea)).set 3 (.ref (ea i))) rfl
                        have ha2 := hp_up_o (x := (t, hp_ob 10 ((hm_e (hs lt) (ky lt) (vl lt) ((N1 lt).map ea) (hm_bf lt ea) (hm_af lt c ea)).set 3 (.ref (ea i))))) ha1 (le1.e lt hlt) (fun z => by cases z)
                        have fr2 := fr.tr (hp_fu (x := (t, hp_ob 10 ((hm_e (hs lt) (ky lt) (vl lt) ((N1 lt).map ea) (hm_bf lt ea) (hm_af lt c ea)).set 3 (.ref (ea i))))) (le1.e lt hlt))
                        refine ro_aload X hl dJ4_resize_297 rfl (by first | exact Or.inr ⟨_, rfl⟩ | exact Or.inl rfl | exact va_rf_or _) ?_
                        refine ro_astore X hl dJ4_resize_299 (by decide) (by first | exact Or.inr ⟨_, rfl⟩ | exact Or.inl rfl | exact va_rf_or _) (fun ls hl => ?_)
                        exact J301 LH LT HH (some i) _ _ _ _ ls (cs.hi2 hcap0 hjc hi ehi him) ha2 le2 fr2 w hl
                    · refine ro_aload X hl dJ4_resize_252 rfl (by first | exact Or.inr ⟨_, rfl⟩ | exact Or.inl rfl | exact va_rf_or _) ?_
                      have elo : hs i % (cap * 2) = j := hbit.1 c249
                      cases LT with
                      | none =>
                        refine lv_ifnonnullN X.1 X.2.1 dJ4_resize_254 ?_
                        refine ro_aload X hl dJ4_resize_257 rfl (by first | exact Or.inr ⟨_, rfl⟩ | exact Or.inl rfl | exact va_rf_or _) ?_
                        refine ro_astore X hl dJ4_resize_259 (by decide) (by first | exact Or.inr ⟨_, rfl⟩ | exact Or.inl rfl | exact va_rf_or _) (fun ls hl => ?_)
                        refine lv_goto (tgt := 271) X.1 X.2.1 dJ4_resize_261 (by decide) ?_
                        refine ro_aload X hl dJ4_resize_271 rfl (by first | exact Or.inr ⟨_, rfl⟩ | exact Or.inl rfl | exact va_rf_or _) ?_
                        refine ro_astore X hl dJ4_resize_273 (by decide) (by first | exact Or.inr ⟨_, rfl⟩ | exact Or.inl rfl | exact va_rf_or _) (fun ls hl => ?_)
                        refine lv_goto (tgt := 301) X.1 X.2.1 dJ4_resize_275 (by decide) ?_
                        exact J301 (some i) (some i) HH HT N1 _ _ _ ls (cs.lo1 hcap0 hi elo him) ha1 le1 fr w hl
                      | some lt =>
                        refine lv_ifnonnull (tgt := 264) X.1 X.2.1 dJ4_resize_254 (by decide) ?_
                        refine ro_aload X hl dJ4_resize_264 rfl (by first | exact Or.inr ⟨_, rfl⟩ | exact Or.inl rfl | exact va_rf_or _) ?_
                        refine ro_aload X hl dJ4_resize_266 rfl (by first | exact Or.inr ⟨_, rfl⟩ | exact Or.inl rfl | exact va_rf_or _) ?_
                        have hlt : lt < c := Nat.lt_trans cs.1.1 hi
                        refine pf_J4_177 X w dJ4_resize_268 rfl rfl (le1.e lt hlt) ht (Nat.le_of_ble_eq_true rfl) (fun H locs w => ?_)
                        have le2 := le1.next hlt (some i) (L := (hm_e (hs lt) (ky lt) (vl lt) ((N1 lt).map ea) (hm_bf lt ea) (hm_af lt c ea)).set 3 (.ref (ea i))) rfl
                        have ha2 := hp_up_o (x := (t, hp_ob 10 ((hm_e (hs lt) (ky lt) (vl lt) ((N1 lt).map ea) (hm_bf lt ea) (hm_af lt c ea)).set 3 (.ref (ea i))))) ha1 (le1.e lt hlt) (fun z => by cases z)
                        have fr2 := fr.tr (hp_fu (x := (t, hp_ob 10 ((hm_e (hs lt) (ky lt) (vl lt) ((N1 lt).map ea) (hm_bf lt ea) (hm_af lt c ea)).set 3 (.ref (ea i))))) (le1.e lt hlt))
                        refine ro_aload X hl dJ4_resize_271 rfl (by first | exact Or.inr ⟨_, rfl⟩ | exact Or.inl rfl | exact va_rf_or _) ?_
                        refine ro_astore X hl dJ4_resize_273 (by decide) (by first | exact Or.inr ⟨_, rfl⟩ | exact Or.inl rfl | exact va_rf_or _) (fun ls hl => ?_)
                        refine lv_goto (tgt := 301) X.1 X.2.1 dJ4_resize_275 (by decide) ?_
                        exact J301 LH (some i) HH HT _ _ _ _ ls (cs.lo2 hcap0 hjc hi elo him) ha2 le2 fr2 w hl
                refine ro_iload X hl dJ4_resize_151 rfl ?_
                refine ro_iload_n X hl dJ4_resize_153 rfl ?_
                refine lv_icmp_ge (tgt := 353) X.1 X.2.1 dJ4_resize_154 (by decide) (fun c154 => ?_) (fun c154 => ?_)
                · have hj : cap = j := by
                    rcases Nat.lt_or_ge j cap with q | q
                    · exact absurd c154 (nI_ge q (by omega))
                    · omega
                  subst hj
                  refine ro_aload X hl dJ4_resize_353 rfl (by first | exact Or.inr ⟨_, rfl⟩ | exact Or.inl rfl | exact va_rf_or _) ?_
                  exact ro_retA X w hQ hlk dJ4_resize_355 hr (Or.inr ⟨_, rfl⟩) (by first | exact Or.inr ⟨_, rfl⟩ | exact Or.inl rfl | exact va_rf_or _) (Nat.le_of_ble_eq_true rfl) (show 0 + cap * 2 ≤ 64 by omega) ⟨_, rfl, a2, T2, N1, rfl, le1, TBt.hc hcap0 tb1 n1, fr⟩
                · have hjc : j < cap := by
                    rcases Nat.lt_or_ge j cap with q | q
                    · exact q
                    · exact absurd (nI_le (by omega) (by omega)) c154
                  refine ro_aload_n X hl dJ4_resize_157 rfl (by first | exact Or.inr ⟨_, rfl⟩ | exact Or.inl rfl | exact va_rf_or _) ?_
                  refine ro_iload X hl dJ4_resize_158 rfl ?_
                  refine ro_aald X w dJ4_resize_160 (k := 4) (C := "java/util/HashMap$Node") rfl ha1 (nI_inb hjc (by omega)) ?_
                  rw [nI_at (by omega), hT1 j (Nat.le_refl j) hjc, (hF j hjc).1]
                  refine lv_dup X.1 X.2.1 dJ4_resize_161 (hp_rf1 _) ?_
                  refine ro_astore X hl dJ4_resize_162 (by decide) (by first | exact Or.inr ⟨_, rfl⟩ | exact Or.inl rfl | exact va_rf_or _) (fun ls hl => ?_)
                  have hFj := (hF j hjc).2
                  cases hFe : F j with
                  | none =>
                    rw [hFe] at hl hFj
                    refine lv_ifnullN (tgt := 347) X.1 X.2.1 dJ4_resize_164 (by decide) ?_
                    have st0 := CSt.start hcap0 hjc n1 n2 (i := c) (fun k hk e => hFj k (Nat.zero_le _) hk e)
                    obtain ⟨F2, hF2⟩ := id tb1
                    have fin := st0.fin hcap0 hjc (N2 := N1) (fun k => ⟨fun q => q.elim (fun z => by cases z) (fun z => by cases z), fun _ _ => rfl⟩)
                    exact E347 T1 T2 N1 _ _ _ ls hjc ha1 (fun b hb1 hb2 => hT1 b (by omega) hb2) le1 (tb1.put hcap0 hjc (o1 := none) (o2 := none) st0.2.2.1 st0.2.2.2.1 (by rw [(hF2 j (by omega)).1, (hF2 j (by omega)).2.2 (by rw [Nat.mod_eq_of_lt hjc]; omega)]) (by rw [(hF2 (j + cap) (by omega)).1, (hF2 (j + cap) (by omega)).2.2 (by rw [Nat.add_mod_right, Nat.mod_eq_of_lt hjc]; omega)]) (fun _ _ _ => rfl)) fin.1 fin.2 fr w (hl.mask [true, true, true, true, true, true, true, true, false, false, false, false, false, false])
                  | some i =>
                    rw [hFe] at hl hFj
                    obtain ⟨-, hi, him, hfst⟩ := hFj
                    refine lv_ifnull X.1 X.2.1 dJ4_resize_164 ?_
                    refine ro_aload_n X hl dJ4_resize_167 rfl (by first | exact Or.inr ⟨_, rfl⟩ | exact Or.inl rfl | exact va_rf_or _) ?_
                    refine ro_iload X hl dJ4_resize_168 rfl ?_
                    refine lv_null X.1 X.2.1 dJ4_resize_170 ?_
                    refine ro_aastN X w dJ4_resize_171 (k := 4) (E := "java/util/HashMap$Node") rfl ha1 ht (nI_inb hjc (by omega)) (fun H locs w => ?_)
                    rw [nI_at (by omega)] at w
                    have le2 := le1.oth ha1 (fun a' ha' => by cases ha'; exact aq_ne ha1 (le1.tt _ rfl) (by omega)) (t, hp_aq G 4 cap (va_up T1 j none))
                    have ha2 := hp_up_s h1 a0 (t, hp_aq G 4 cap (va_up T1 j none))
                    have hT2 : ∀ b, j + 1 ≤ b → b < cap → va_up T1 j none b = T b := fun b hb1 hb2 => (va_up_n T1 none (by omega)).trans (hT1 b (by omega) hb2)
                    have fr2 := fr.tr (hp_fu (x := (t, hp_aq G 4 cap (va_up T1 j none))) ha1)
                    have hlt := hi
                    refine ro_aload X hl dJ4_resize_172 rfl (by first | exact Or.inr ⟨_, rfl⟩ | exact Or.inl rfl | exact va_rf_or _) ?_
                    refine gf_J4_177 X w dJ4_resize_174 (le2.e i hi) rfl ?_
                    have hNi : FIc c cap hs i (N1 i) := n2 i hi (by omega)
                    cases hNe : N1 i with
                    | none =>
                      rw [hNe] at hNi
                      refine lv_ifnonnullN X.1 X.2.1 dJ4_resize_177 ?_
                      refine ro_aload X hl dJ4_resize_180 rfl (by first | exact Or.inr ⟨_, rfl⟩ | exact Or.inl rfl | exact va_rf_or _) ?_
                      refine ro_aload X hl dJ4_resize_182 rfl (by first | exact Or.inr ⟨_, rfl⟩ | exact Or.inl rfl | exact va_rf_or _) ?_
                      refine gf_J4_168 X w dJ4_resize_184 (le2.e i hi) rfl ?_
                      refine ro_iload X hl dJ4_resize_187 rfl ?_
                      refine lv_iconst (v := 1) X.1 X.2.1 dJ4_resize_189 (by decide) ?_
                      refine lv_isub X.1 X.2.1 dJ4_resize_190 ?_
                      refine lv_iand X.1 X.2.1 dJ4_resize_191 ?_
                      rw [hm_and' hcap (hb i hi)]
                      refine ro_aload X hl dJ4_resize_192 rfl (by first | exact Or.inr ⟨_, rfl⟩ | exact Or.inl rfl | exact va_rf_or _) ?_
                      have hm2 : hs i % (cap * 2) < cap * 2 := Nat.mod_lt _ (by omega)
                      refine ro_aast X w dJ4_resize_194 (k := 4) (E := "java/util/HashMap$Node") rfl (le2.tt a2 rfl) ht (nI_inb hm2 (by omega)) (hp_any w (ci := 10) rfl (le2.e i hi) q2106) (fun H locs w => ?_)
                      rw [nI_at (by omega)] at w
                      have le3 := le2.tab rfl (hs i % (cap * 2)) (some (ea i))
                      have ha3 := hp_up_o (x := (t, hp_aq G 4 (cap * 2) (va_up T2 (hs i % (cap * 2)) (some (ea i))))) ha2 (le2.tt a2 rfl) (fun z => by injection z with _ z; injection z with z; injection z with z; injection z with _ z; injection z with z; omega)
                      refine lv_goto (tgt := 347) X.1 X.2.1 dJ4_resize_195 (by decide) ?_
                      have cs0 : CSt c cap j i none none none none N1 hs := CSt.start hcap0 hjc n1 n2 (fun k hk e => hfst k (Nat.zero_le _) hk e)
                      have rest0 : ∀ k, i + 1 ≤ k → k < c → ¬ hs k % cap = j := fun k h1 h2 e => hNi k h1 h2 (e.trans him.symm)
                      have fr3 := fr2.tr (hp_fu (x := (t, hp_aq G 4 (cap * 2) (va_up T2 (hs i % (cap * 2)) (some (ea i))))) (le2.tt a2 rfl))
                      obtain ⟨F2, hF2⟩ := id tb1
                      have z1 : T2 j = (none : Option Nat).map ea := by rw [(hF2 j (by omega)).1, (hF2 j (by omega)).2.2 (by rw [Nat.mod_eq_of_lt hjc]; omega)]
                      have z2 : T2 (j + cap) = (none : Option Nat).map ea := by rw [(hF2 (j + cap) (by omega)).1, (hF2 (j + cap) (by omega)).2.2 (by rw [Nat.add_mod_right, Nat.mod_eq_of_lt hjc]; omega)]
                      have nk : ∀ k, (some k = some i → N1 k = none) ∧ (some k ≠ some i → N1 k = N1 k) := fun k => ⟨fun q => by cases q; exact hNe, fun _ => rfl⟩
                      rcases cs_or hcap0 him with elo | ehi
                      · have cs1 := (cs0.lo1 hcap0 hi elo him).skip hjc (by omega) rest0
                        have fin := cs1.fin hcap0 hjc (N2 := N1) (fun k => ⟨fun q => (nk k).1 (q.resolve_right (fun z => by cases z)), fun z _ => rfl⟩)
                        exact E347 _ _ N1 _ _ _ ls hjc ha3 hT2 le3 (tb1.put hcap0 hjc cs1.2.2.1 cs1.2.2.2.1 (by rw [elo]; exact va_up_s _ _ _) (by rw [elo]; exact (va_up_n _ _ (by omega)).trans z2) (fun b hb1 _ => by rw [elo]; exact va_up_n _ _ hb1)) fin.1 fin.2 fr3 w (hl.mask [true, true, true, true, true, true, true, true, false, false, false, false, false, false])
                      · have cs1 := (cs0.hi1 hcap0 hi ehi him).skip hjc (by omega) rest0
                        have fin := cs1.fin hcap0 hjc (N2 := N1) (fun k => ⟨fun q => (nk k).1 (q.resolve_left (fun z => by cases z)), fun _ z => rfl⟩)
                        exact E347 _ _ N1 _ _ _ ls hjc ha3 hT2 le3 (tb1.put hcap0 hjc cs1.2.2.1 cs1.2.2.2.1 (by rw [ehi]; exact (va_up_n _ _ (by omega)).trans z1) (by rw [ehi]; exact va_up_s _ _ _) (fun b _ hb2 => by rw [ehi]; exact va_up_n _ _ hb2)) fin.1 fin.2 fr3 w (hl.mask [true, true, true, true, true, true, true, true, false, false, false, false, false, false])
                    | some i2 =>
                      refine lv_ifnonnull (tgt := 198) X.1 X.2.1 dJ4_resize_177 (by decide) ?_
                      refine ro_aload X hl dJ4_resize_198 rfl (by first | exact Or.inr ⟨_, rfl⟩ | exact Or.inl rfl | exact va_rf_or _) ?_
                      refine ro_instNo X w (ci := 10) rfl q1003 (by decide +kernel) dJ4_resize_200 (le2.e i hi) ?_
                      refine lv_if_eq (tgt := 223) X.1 X.2.1 dJ4_resize_203 (by decide) (fun c203 => ?_) (fun c203 => ?_)
                      · refine lv_null X.1 X.2.1 dJ4_resize_223 ?_
                        refine ro_astore X hl dJ4_resize_224 (by decide) (by first | exact Or.inr ⟨_, rfl⟩ | exact Or.inl rfl | exact va_rf_or _) (fun ls hl => ?_)
                        refine lv_null X.1 X.2.1 dJ4_resize_226 ?_
                        refine ro_astore X hl dJ4_resize_227 (by decide) (by first | exact Or.inr ⟨_, rfl⟩ | exact Or.inl rfl | exact va_rf_or _) (fun ls hl => ?_)
                        refine lv_null X.1 X.2.1 dJ4_resize_229 ?_
                        refine ro_astore X hl dJ4_resize_230 (by decide) (by first | exact Or.inr ⟨_, rfl⟩ | exact Or.inl rfl | exact va_rf_or _) (fun ls hl => ?_)
                        refine lv_null X.1 X.2.1 dJ4_resize_232 ?_
                        refine ro_astore X hl dJ4_resize_233 (by decide) (by first | exact Or.inr ⟨_, rfl⟩ | exact Or.inl rfl | exact va_rf_or _) (fun ls hl => ?_)
                        exact C c i none none none none _ N1 _ _ _ ls hjc (by omega) hi him (CSt.start hcap0 hjc n1 n2 (fun k hk e => hfst k (Nat.zero_le _) hk e)) ha2 hT2 le2 fr2 w hl
                      · exact absurd rfl c203
            exact K cap 0 T (fun _ => none) N _ _ _ ls (by omega) (by omega) ha0' (fun _ _ _ => rfl) le3 TBt.zero (fun k _ q => absurd q (Nat.not_lt_zero _)) (fun k hk _ => hNc k hk) fr3 w (hl.mask [true, true, true, true, true, true, true, true, false, false, false, false, false, false])
          · exact absurd c87 (fun q => by have := nI_inj (a := th * 2) (b := 0) (by omega) (by decide) q; omega)
    · exact absurd (show nI cap < 1073741824 from by rw [show (1073741824 : Int32) = nI 1073741824 from rfl]; exact (nI_ltI (by omega) (by decide)).mpr (by omega)) c31
