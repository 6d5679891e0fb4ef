/-! LINKEDHASHMAP: put (printed by tools/m26.py) -/
set_option maxRecDepth 100000
theorem map_up {ea : Nat → Nat} {n q : Nat} {r : Option Nat} (h : ∀ z, r = some z → z < n) : r.map (va_up ea n q) = r.map ea := by
  cases r with
  | none => rfl
  | some z => exact congrArg some (va_up_n ea q (by have := h z rfl; omega))
theorem FI.lt {P : Nat → Prop} {lo n : Nat} {r : Option Nat} (h : FI P lo n r) : ∀ z, r = some z → z < n := fun z e => by subst e; exact h.2.1
section HCs
variable {n cap q b : Nat} {T N F : Nat → Option Nat} {hs ea : Nat → Nat}
theorem HC.app1 (hF : ∀ b, b < cap → T b = (F b).map ea ∧ FI (fun k => hs k % cap = b) 0 n (F b)) (hN : ∀ k, k < n → FIc n cap hs k (N k)) (hb : hs n % cap = b) (hbc : b < cap) (hFb : F b = none) : HC (n + 1) cap (va_up T b (some q)) (va_up N n none) hs (va_up ea n q) := by
  have emp := (hF b hbc).2
  rw [hFb] at emp
  refine ⟨⟨va_up F b (some n), fun b' hb' => ?_⟩, fun k hk => ?_⟩
  · by_cases e : b' = b
    · subst e
      rw [va_up_s, va_up_s]
      exact ⟨congrArg some (va_up_s ea n q).symm, emp.new (Nat.zero_le _) hb⟩
    · rw [va_up_n _ _ e, va_up_n _ _ e]
      obtain ⟨h1, h2⟩ := hF b' hb'
      exact ⟨h1.trans (map_up h2.lt).symm, h2.grow (fun z => e (z.symm.trans hb))⟩
  · by_cases e : k = n
    · subst e
      rw [va_up_s]
      exact fun j h1 h2 => by omega
    · rw [va_up_n _ _ e]
      exact (hN k (by omega)).grow (fun z => emp k (Nat.zero_le _) (by omega) (z.symm.trans hb))
theorem HC.app2 {i : Nat} (hF : ∀ b, b < cap → T b = (F b).map ea ∧ FI (fun k => hs k % cap = b) 0 n (F b)) (hN : ∀ k, k < n → FIc n cap hs k (N k)) (hb : hs n % cap = b) (hbc : b < cap) (hi : i < n) (him : hs i % cap = b) (hNi : N i = none) : HC (n + 1) cap T (va_up (va_up N n none) i (some n)) hs (va_up ea n q) := by
  have lst := hN i hi
  rw [hNi] at lst
  refine ⟨⟨F, fun b' hb' => ?_⟩, fun k hk => ?_⟩
  · obtain ⟨h1, h2⟩ := hF b' hb'
    refine ⟨h1.trans (map_up h2.lt).symm, ?_⟩
    cases e : F b' with
    | none => rw [e] at h2; exact h2.grow (fun z => h2 i (Nat.zero_le _) hi (him.trans (hb.symm.trans z)))
    | some z => rw [e] at h2; exact h2.growS
  · by_cases e : k = i
    · subst e
      rw [va_up_s]
      exact lst.new (by omega) (hb.trans him.symm)
    · rw [va_up_n _ _ e]
      by_cases e2 : k = n
      · subst e2
        rw [va_up_s]
        exact fun j h1 h2 => by omega
      · rw [va_up_n _ _ e2]
        have hk2 := hN k (by omega)
        cases e3 : N k with
        | some z => rw [e3] at hk2; exact hk2.growS
        | none =>
          rw [e3] at hk2
          refine hk2.grow (fun z => ?_)
          have zk : hs k % cap = b := z.symm.trans hb
          rcases Nat.lt_trichotomy k i with y | y | y
          · exact hk2 i y hi (him.trans zk.symm)
          · exact e y
          · exact lst k y (by omega) (zk.trans him.symm)
end HCs
set_option maxHeartbeats 4000000 in
theorem mt_J4_putVal {l : Launch} {G : hp_G} {B : Nat} {h : hp_H} {x t n : Nat} {vals : Option Nat} {hs ky vl ea : Nat → Nat} (lm : LM G t x n vals hs ky vl ea h) (ht : t ≠ 0) (hn : n < 40) (hb : ∀ i, i ≤ n → hs i < 64) (hmono : ∀ i j, i < j → j ≤ n → hs i < hs j) : hp_M l G B yJ4_putVal cJ4_putVal 13 (some (.object "java/lang/Object")) 5 3 200 [.ref x, .int (nI (hs n)), .ref (ky n), .ref (vl n), .int 0, .int 1] h (hp_I .null (fun h1 => ∃ q, LM G t x (n + 1) vals hs ky vl (va_up ea n q) h1 ∧ hp_fr (fun q => q = t) h h1)) := by
  refine hp_M.of (by decide) 7 (List.forall_mem_cons.mpr ⟨rfl, (List.forall_mem_cons.mpr ⟨rfl, (List.forall_mem_cons.mpr ⟨rfl, (List.forall_mem_cons.mpr ⟨rfl, (List.forall_mem_cons.mpr ⟨rfl, (List.forall_mem_cons.mpr ⟨rfl, (fun _ h => absurd h List.not_mem_nil)⟩)⟩)⟩)⟩)⟩)⟩) (Nat.le_of_ble_eq_true rfl) ?_
  intro p e s m below meth cd Q ls X hr hlk hnm w hl hQ
  have hl : hp_L ls 13 [some (.ref x), some (.int (nI (hs n))), some (.ref (ky n)), some (.ref (vl n)), some (.int 0), some (.int 1), none, none, none, none, none, none, none] := hl
  have lm0 := lm
  obtain ⟨tb, cap0, T0, m1, th0, N0, le0, hht⟩ := lm
  have hbn := hb n (Nat.le_refl n)
  have J259 : ∀ (a cap th q : Nat) (T N : Nat → Option Nat) (m0 : Int32) (h1 : hp_H) (H : Heap) (locs : List Loc) (ls : Array Slot) (cc ss : Nat), cc ≤ 2 → ss ≤ 100 → hm_cap cap th → n ≤ th → LE G t x (n + 1) n (some a) cap T m0 th vals N hs ky vl (va_up ea n q) h1 → HC (n + 1) cap T N hs (va_up ea n q) → hp_fr (fun q => q = t) h h1 → hp_Ws G B h1 s H locs → hp_L ls 13 [some (.ref x), some (.int (nI (hs n))), some (.ref (ky n)), some (.ref (vl n)), some (.int 0), some (.int 1), none, none, none, none, none, none, none] → W p l e (hp_rm 5 3 200) s m ([.ref x, .int (nI (hs n)), .ref (ky n), .ref (vl n), .int 0, .int 1] : List Value).toArray below meth cd H locs cc ss Q (F0 m 259 ls []) := by
    intro a cap th q T N m0 h1 H locs ls cc ss hcc hss hcap hnth le1 hc1 fr w hl
    have hth : th ≤ 48 := by rcases hcap with ⟨-, z⟩ | ⟨-, z⟩ | ⟨-, z⟩ <;> omega
    refine ro_aload_n X hl dJ4_putVal_259 rfl (by first | exact Or.inr ⟨_, rfl⟩ | exact Or.inl rfl | exact va_rf_or _) ?_
    refine lv_dup X.1 X.2.1 dJ4_putVal_260 rfl ?_
    refine gf_J4_202 X w dJ4_putVal_261 le1.o rfl ?_
    refine lv_iconst (v := 1) X.1 X.2.1 dJ4_putVal_264 (by decide) ?_
    refine lv_iadd X.1 X.2.1 dJ4_putVal_265 ?_
    refine pf_J4_202 X w dJ4_putVal_266 rfl rfl le1.o ht (Nat.le_of_ble_eq_true rfl) (fun H locs w => ?_)
    have le2 := le1.own (n' := n) (m' := m0 + 1) (th' := th) (vals' := vals) (L := (hm_o (some a) n m0 th vals (hm_hd (n + 1) (va_up ea n q)) (hm_tl (n + 1) (va_up ea n q))).set 3 (.int (m0 + 1))) rfl
    refine ro_aload_n X hl dJ4_putVal_269 rfl (by first | exact Or.inr ⟨_, rfl⟩ | exact Or.inl rfl | exact va_rf_or _) ?_
    refine lv_dup X.1 X.2.1 dJ4_putVal_270 rfl ?_
    refine gf_J4_156 X w dJ4_putVal_271 le2.o rfl ?_
    refine lv_iconst (v := 1) X.1 X.2.1 dJ4_putVal_274 (by decide) ?_
    refine lv_iadd X.1 X.2.1 dJ4_putVal_275 ?_
    refine lv_dup_x1 X.1 X.2.1 dJ4_putVal_276 rfl rfl ?_
    refine pf_J4_156 X w dJ4_putVal_277 rfl rfl le2.o ht (Nat.le_of_ble_eq_true rfl) (fun H locs w => ?_)
    have le3 := le2.own (n' := n + 1) (m' := m0 + 1) (th' := th) (vals' := vals) (L := (hm_o (some a) n (m0 + 1) th vals (hm_hd (n + 1) (va_up ea n q)) (hm_tl (n + 1) (va_up ea n q))).set 2 (.int (nI n + 1))) (by rw [nI_1]; rfl)
    have fr3 := (fr.tr (hp_fu (x := (t, hp_ob 9 ((hm_o (some a) n m0 th vals (hm_hd (n + 1) (va_up ea n q)) (hm_tl (n + 1) (va_up ea n q))).set 3 (.int (m0 + 1))))) le1.o)).tr (hp_fu (x := (t, hp_ob 9 ((hm_o (some a) n (m0 + 1) th vals (hm_hd (n + 1) (va_up ea n q)) (hm_tl (n + 1) (va_up ea n q))).set 2 (.int (nI n + 1))))) le2.o)
    refine ro_aload_n X hl dJ4_putVal_280 rfl (by first | exact Or.inr ⟨_, rfl⟩ | exact Or.inl rfl | exact va_rf_or _) ?_
    refine gf_J4_88 X w dJ4_putVal_281 le3.o rfl ?_
    have J292 : ∀ (a cap th : Nat) (T N : Nat → Option Nat) (h2 : hp_H) (H : Heap) (locs : List Loc) (ls : Array Slot) (cc ss : Nat), cc ≤ 3 → ss ≤ 200 → hm_cap cap th → n + 1 ≤ th → LE G t x (n + 1) (n + 1) (some a) cap T (m0 + 1) th vals N hs ky vl (va_up ea n q) h2 → HC (n + 1) cap T N hs (va_up ea n q) → hp_fr (fun q => q = t) h h2 → hp_Ws G B h2 s H locs → hp_L ls 13 [some (.ref x), some (.int (nI (hs n))), some (.ref (ky n)), some (.ref (vl n)), some (.int 0), some (.int 1), none, none, none, none, none, none, none] → W p l e (hp_rm 5 3 200) s m ([.ref x, .int (nI (hs n)), .ref (ky n), .ref (vl n), .int 0, .int 1] : List Value).toArray below meth cd H locs cc ss Q (F0 m 292 ls []) := by
      intro a cap th T N h2 H locs ls cc ss hcc hss hcap hnth le1 hc1 fr w hl
      refine ro_aload_n X hl dJ4_putVal_292 rfl (by first | exact Or.inr ⟨_, rfl⟩ | exact Or.inl rfl | exact va_rf_or _) ?_
      refine ro_iload X hl dJ4_putVal_293 rfl ?_
      refine ro_kJ0 (cs_J4_205 X w le1.o (mt_J5_afterNodeInsertion le1) rfl rfl hl ⟨⟨Nat.le_of_ble_eq_true rfl, Nat.le_of_ble_eq_true rfl⟩, (by show _ ≤ 3; omega), (by show _ ≤ 200; omega)⟩ (Nat.le_of_ble_eq_true rfl) dJ4_putVal_295) w (fun H locs w => ?_)
      refine lv_null X.1 X.2.1 dJ4_putVal_298 ?_
      exact ro_retA X w hQ hlk dJ4_putVal_299 hr (Or.inl ⟨_, rfl⟩) (by first | exact Or.inr ⟨_, rfl⟩ | exact Or.inl rfl | exact va_rf_or _) hcc hss ⟨rfl, q, ⟨some a, cap, T, m0 + 1, th, N, le1, Or.inr ⟨⟨a, rfl⟩, hcap, hnth, hc1⟩⟩, fr⟩
    refine lv_icmp_le (tgt := 292) X.1 X.2.1 dJ4_putVal_284 (by decide) (fun c284 => ?_) (fun c284 => ?_)
    · exact J292 a cap th T N _ _ _ ls _ _ (by omega) (by omega) hcap (by rcases Nat.lt_or_ge th (n + 1) with z | z; exact absurd c284 (by rw [nI_1]; exact nI_ge z (by omega)); exact z) le3 hc1 fr3 w (hl.mask [true, true, true, true, true, true, false, false, false, false, false, false, false])
    · have hn1 : th < n + 1 := by
        rcases Nat.lt_or_ge th (n + 1) with z | z
        · exact z
        · exact absurd (show nI n + 1 ≤ nI th by rw [nI_1]; exact nI_le z (by omega)) c284
      have hcth : (cap = 16 ∧ th = 12) ∨ (cap = 32 ∧ th = 24) := by
        rcases hcap with z | z | z
        · exact Or.inl z
        · exact Or.inr z
        · omega
      refine ro_aload_n X hl dJ4_putVal_287 rfl (by first | exact Or.inr ⟨_, rfl⟩ | exact Or.inl rfl | exact va_rf_or _) ?_
      refine ro_kE (cs_J4_117 X w le3.o (mt_J4_resizeN le3 ht hcth hc1 (fun i hi => hb i (by omega))) rfl rfl hl ⟨⟨Nat.le_of_ble_eq_true rfl, Nat.le_of_ble_eq_true rfl⟩, (by show _ ≤ 3; omega), (by show _ ≤ 200; omega)⟩ (Nat.le_of_ble_eq_true rfl) dJ4_putVal_288) w (fun r288 h288 H locs hp288 w => ?_)
      obtain ⟨a2, T2, N2, rfl, hp288⟩ := hp288
      refine lv_pop X.1 X.2.1 dJ4_putVal_291 rfl ?_
      exact J292 a2 (cap * 2) (th * 2) T2 N2 _ _ _ ls _ _ (by omega) (by omega) (by rcases hcth with ⟨z1, z2⟩ | ⟨z1, z2⟩; right; left; omega; right; right; omega) (by omega) hp288.1 hp288.2.1 (fr3.tr hp288.2.2) w (hl.mask [true, true, true, true, true, true, false, false, false, false, false, false, false])
  have J29 : ∀ (a cap th : Nat) (T N : Nat → Option Nat) (m0 : Int32) (h1 : hp_H) (H : Heap) (locs : List Loc) (ls : Array Slot) (cc ss : Nat), cc ≤ 1 → ss ≤ 64 → hm_cap cap th → n ≤ th → LE G t x n n (some a) cap T m0 th vals N hs ky vl ea h1 → HC n cap T N hs ea → hp_fr (fun q => q = t) h h1 → hp_Ws G B h1 s H locs → hp_L ls 13 [some (.ref x), some (.int (nI (hs n))), some (.ref (ky n)), some (.ref (vl n)), some (.int 0), some (.int 1), some (.ref a), none, some (.int (nI cap)), none, none, none, none] → W p l e (hp_rm 5 3 200) s m ([.ref x, .int (nI (hs n)), .ref (ky n), .ref (vl n), .int 0, .int 1] : List Value).toArray below meth cd H locs cc ss Q (F0 m 29 ls []) := by
    intro a cap th T N m0 h1 H locs ls cc ss hcc hss hcap hnth le1 hc1 fr w hl
    obtain ⟨⟨F, hF⟩, hN⟩ := hc1
    have hc16 : 16 ≤ cap ∧ cap ≤ 64 := by rcases hcap with ⟨z, -⟩ | ⟨z, -⟩ | ⟨z, -⟩ <;> omega
    have hbk : hs n % cap < cap := Nat.mod_lt _ (by omega)
    obtain ⟨hT, hFI⟩ := hF (hs n % cap) hbk
    have hlt : ∀ i, i < n → ∀ j, N i = some j → j < n := fun i hi => (hN i hi).lt
    have L : ∀ (f i cn : Nat) (H : Heap) (locs : List Loc) (ls : Array Slot), n ≤ f + i → i < n → hs i % cap = hs n % cap → 16 * cn ≤ hs i → hp_Ws G B h1 s H locs → hp_L ls 13 [some (.ref x), some (.int (nI (hs n))), some (.ref (ky n)), some (.ref (vl n)), some (.int 0), some (.int 1), some (.ref a), some (.ref (ea i)), some (.int (nI cap)), some (.int (nI (hs n % cap))), none, none, some (.int (nI cn))] → W p l e (hp_rm 5 3 200) s m ([.ref x, .int (nI (hs n)), .ref (ky n), .ref (vl n), .int 0, .int 1] : List Value).toArray below meth cd H locs cc ss Q (F0 m 134 ls []) := by
      intro f
      induction f with
      | zero => intro i cn H locs ls hf hi; exact absurd hi (by omega)
      | succ f ih =>
        intro i cn H locs ls hf hi him hcn w hl
        have hbi := hb i (by omega)
        refine ro_aload X hl dJ4_putVal_134 rfl (by first | exact Or.inr ⟨_, rfl⟩ | exact Or.inl rfl | exact va_rf_or _) ?_
        refine gf_J4_177 X w dJ4_putVal_136 (le1.e i hi) rfl ?_
        refine lv_dup X.1 X.2.1 dJ4_putVal_139 (hp_rf1 _) ?_
        refine ro_astore X hl dJ4_putVal_140 (by decide) (by first | exact Or.inr ⟨_, rfl⟩ | exact Or.inl rfl | exact va_rf_or _) (fun ls hl => ?_)
        have hNF := hN i hi
        cases hNi : N i with
        | none =>
          rw [hNi] at hl hNF
          refine lv_ifnonnullN X.1 X.2.1 dJ4_putVal_142 ?_
          refine ro_aload X hl dJ4_putVal_145 rfl (by first | exact Or.inr ⟨_, rfl⟩ | exact Or.inl rfl | exact va_rf_or _) ?_
          refine ro_aload_n X hl dJ4_putVal_147 rfl (by first | exact Or.inr ⟨_, rfl⟩ | exact Or.inl rfl | exact va_rf_or _) ?_
          refine ro_iload_n X hl dJ4_putVal_148 rfl ?_
          refine ro_aload_n X hl dJ4_putVal_149 rfl (by first | exact Or.inr ⟨_, rfl⟩ | exact Or.inl rfl | exact va_rf_or _) ?_
          refine ro_aload_n X hl dJ4_putVal_150 rfl (by first | exact Or.inr ⟨_, rfl⟩ | exact Or.inl rfl | exact va_rf_or _) ?_
          refine lv_null X.1 X.2.1 dJ4_putVal_151 ?_
          refine ro_kE (cs_J4_186 X w le1.o (mt_J5_newNode le1 ht hlt) rfl rfl hl ⟨⟨Nat.le_of_ble_eq_true rfl, Nat.le_of_ble_eq_true rfl⟩, (by show _ ≤ 3; omega), (by show _ ≤ 200; omega)⟩ (Nat.le_of_ble_eq_true rfl) dJ4_putVal_152) w (fun r152 h152 H locs hp152 w => ?_)
          obtain ⟨q, rfl, hq, hl152, hp152⟩ := hp152
          have le1e := hl152.e i (by omega)
          rw [va_up_n ea q (by omega)] at le1e
          refine pf_J4_177 X w dJ4_putVal_155 rfl rfl le1e ht (Nat.le_of_ble_eq_true rfl) (fun H locs w => ?_)
          have le2 := hl152.next (k := i) (by omega) (some n) (L := (hm_e (hs i) (ky i) (vl i) (((va_up N n none) i).map (va_up ea n q)) (hm_bf i (va_up ea n q)) (hm_af i (n + 1) (va_up ea n q))).set 3 (.ref q)) (by show _ = List.set _ 3 (Value.ref q); rw [show (some n : Option Nat).map (va_up ea n q) = some q from congrArg some (va_up_s ea n q)]; rfl)
          rw [show va_up ea n q i = ea i from va_up_n ea q (by omega)] at le2
          refine ro_iload X hl dJ4_putVal_158 rfl ?_
          refine lv_bipush (v := 7) X.1 X.2.1 dJ4_putVal_160 (by decide) ?_
          refine lv_icmp_lt (tgt := 222) X.1 X.2.1 dJ4_putVal_162 (by decide) (fun c162 => ?_) (fun c162 => ?_)
          · refine ro_aload X hl dJ4_putVal_222 rfl (by first | exact Or.inr ⟨_, rfl⟩ | exact Or.inl rfl | exact va_rf_or _) ?_
            refine lv_ifnullN (tgt := 259) X.1 X.2.1 dJ4_putVal_224 (by decide) ?_
            have hc2 := HC.app2 (q := q) hF hN rfl hbk hi him hNi
            exact J259 a cap th q _ _ m0 _ _ _ ls _ _ (by omega) (by omega) hcap hnth le2 hc2 ((fr.tr hp152).tr (hp_fu le1e)) w (hl.mask [true, true, true, true, true, true, false, false, false, false, false, false, false])
          · exact absurd (show nI cn < 7 from by rw [show (7 : Int32) = nI 7 from rfl]; exact (nI_ltI (by omega) (by decide)).mpr (by omega)) c162
        | some i2 =>
          rw [hNi] at hl hNF
          obtain ⟨g1, g2, g3, g4⟩ := hNF
          have hin2 := hmono i2 n g2 (Nat.le_refl n)
          have hii2 := hmono i i2 g1 (by omega)
          have hb2 := hb i2 (by omega)
          have hstep : hs i + 16 ≤ hs i2 := by
            have e1 := Nat.div_add_mod (hs i) cap
            have e2 := Nat.div_add_mod (hs i2) cap
            have e3 : hs i2 % cap = hs i % cap := g3
            have e4 : hs i / cap < hs i2 / cap := by
              rcases Nat.lt_or_ge (hs i / cap) (hs i2 / cap) with z | z
              · exact z
              · have := Nat.mul_le_mul_left cap z
                omega
            have e5 := Nat.mul_le_mul_left cap (Nat.succ_le_of_lt e4)
            rw [Nat.mul_succ] at e5
            omega
          refine lv_ifnonnull (tgt := 175) X.1 X.2.1 dJ4_putVal_142 (by decide) ?_
          refine ro_aload X hl dJ4_putVal_175 rfl (by first | exact Or.inr ⟨_, rfl⟩ | exact Or.inl rfl | exact va_rf_or _) ?_
          refine gf_J4_168 X w dJ4_putVal_177 (le1.e i2 g2) rfl ?_
          refine ro_iload_n X hl dJ4_putVal_180 rfl ?_
          refine lv_icmp_ne (tgt := 212) X.1 X.2.1 dJ4_putVal_181 (by decide) (fun c181 => ?_) (fun c181 => ?_)
          · refine ro_aload X hl dJ4_putVal_212 rfl (by first | exact Or.inr ⟨_, rfl⟩ | exact Or.inl rfl | exact va_rf_or _) ?_
            refine ro_astore X hl dJ4_putVal_214 (by decide) (by first | exact Or.inr ⟨_, rfl⟩ | exact Or.inl rfl | exact va_rf_or _) (fun ls hl => ?_)
            refine ro_iinc X hl dJ4_putVal_216 (by decide) rfl (fun ls hl => ?_)
            rw [hp_ni] at hl
            refine lv_goto (tgt := 134) X.1 X.2.1 dJ4_putVal_219 (by decide) ?_
            exact ih i2 (cn + 1) _ _ ls (by omega) g2 (g3.trans him) (by omega) w (hl.mask [true, true, true, true, true, true, true, true, true, true, false, false, true])
          · exact absurd (nI_inj (by omega) (by omega) c181) (by omega)
    refine ro_aload X hl dJ4_putVal_29 rfl (by first | exact Or.inr ⟨_, rfl⟩ | exact Or.inl rfl | exact va_rf_or _) ?_
    refine ro_iload X hl dJ4_putVal_31 rfl ?_
    refine lv_iconst (v := 1) X.1 X.2.1 dJ4_putVal_33 (by decide) ?_
    refine lv_isub X.1 X.2.1 dJ4_putVal_34 ?_
    refine ro_iload_n X hl dJ4_putVal_35 rfl ?_
    refine lv_iand X.1 X.2.1 dJ4_putVal_36 ?_
    rw [hm_and hcap hbn]
    refine lv_dup X.1 X.2.1 dJ4_putVal_37 rfl ?_
    refine ro_istore X hl dJ4_putVal_38 (by decide) (fun ls hl => ?_)
    refine ro_aald X w dJ4_putVal_40 (k := 4) (C := "java/util/HashMap$Node") rfl (le1.tt a rfl) (nI_inb hbk (by omega)) ?_
    rw [nI_at (by omega), hT]
    refine lv_dup X.1 X.2.1 dJ4_putVal_41 (hp_rf1 _) ?_
    refine ro_astore X hl dJ4_putVal_42 (by decide) (by first | exact Or.inr ⟨_, rfl⟩ | exact Or.inl rfl | exact va_rf_or _) (fun ls hl => ?_)
    cases hFe : F (hs n % cap) with
    | none =>
      rw [hFe] at hFI
      refine lv_ifnonnullN X.1 X.2.1 dJ4_putVal_44 ?_
      refine ro_aload X hl dJ4_putVal_47 rfl (by first | exact Or.inr ⟨_, rfl⟩ | exact Or.inl rfl | exact va_rf_or _) ?_
      refine ro_iload X hl dJ4_putVal_49 rfl ?_
      refine ro_aload_n X hl dJ4_putVal_51 rfl (by first | exact Or.inr ⟨_, rfl⟩ | exact Or.inl rfl | exact va_rf_or _) ?_
      refine ro_iload_n X hl dJ4_putVal_52 rfl ?_
      refine ro_aload_n X hl dJ4_putVal_53 rfl (by first | exact Or.inr ⟨_, rfl⟩ | exact Or.inl rfl | exact va_rf_or _) ?_
      refine ro_aload_n X hl dJ4_putVal_54 rfl (by first | exact Or.inr ⟨_, rfl⟩ | exact Or.inl rfl | exact va_rf_or _) ?_
      refine lv_null X.1 X.2.1 dJ4_putVal_55 ?_
      refine ro_kE (cs_J4_186 X w le1.o (mt_J5_newNode le1 ht hlt) rfl rfl hl ⟨⟨Nat.le_of_ble_eq_true rfl, Nat.le_of_ble_eq_true rfl⟩, (by show _ ≤ 3; omega), (by show _ ≤ 200; omega)⟩ (Nat.le_of_ble_eq_true rfl) dJ4_putVal_56) w (fun r56 h56 H locs hp56 w => ?_)
      obtain ⟨q, rfl, hq, hl56, hp56⟩ := hp56
      refine ro_aast X w dJ4_putVal_59 (k := 4) (E := "java/util/HashMap$Node") rfl (hl56.tt a rfl) ht (nI_inb hbk (by omega)) (hp_any w (ci := 10) rfl (show _ = some (t, hp_ob 10 _) from (va_up_s ea n q ▸ hl56.e n (Nat.lt_succ_self n))) q2106) (fun H locs w => ?_)
      rw [nI_at (by omega)] at w
      have le2 := hl56.tab rfl (hs n % cap) (some q)
      refine lv_goto (tgt := 259) X.1 X.2.1 dJ4_putVal_60 (by decide) ?_
      have hc2 := HC.app1 (q := q) hF hN rfl hbk hFe
      exact J259 a cap th q _ _ m0 _ _ _ ls _ _ (by omega) (by omega) hcap hnth le2 hc2 ((fr.tr hp56).tr (hp_fu (x := (t, hp_aq G 4 cap (va_up T (hs n % cap) (some q)))) (hl56.tt a rfl))) w (hl.mask [true, true, true, true, true, true, false, false, false, false, false, false, false])
    | some i =>
      rw [hFe] at hl hFI
      obtain ⟨-, hi, him, hfst⟩ := hFI
      have hin := hmono i n hi (Nat.le_refl n)
      refine lv_ifnonnull (tgt := 63) X.1 X.2.1 dJ4_putVal_44 (by decide) ?_
      refine ro_aload X hl dJ4_putVal_63 rfl (by first | exact Or.inr ⟨_, rfl⟩ | exact Or.inl rfl | exact va_rf_or _) ?_
      refine gf_J4_168 X w dJ4_putVal_65 (le1.e i hi) rfl ?_
      refine ro_iload_n X hl dJ4_putVal_68 rfl ?_
      refine lv_icmp_ne (tgt := 104) X.1 X.2.1 dJ4_putVal_69 (by decide) (fun c69 => ?_) (fun c69 => ?_)
      · refine ro_aload X hl dJ4_putVal_104 rfl (by first | exact Or.inr ⟨_, rfl⟩ | exact Or.inl rfl | exact va_rf_or _) ?_
        refine ro_instNo X w (ci := 10) rfl q1003 (by decide +kernel) dJ4_putVal_106 (le1.e i hi) ?_
        refine lv_if_eq (tgt := 131) X.1 X.2.1 dJ4_putVal_109 (by decide) (fun c109 => ?_) (fun c109 => ?_)
        · refine lv_iconst (v := 0) X.1 X.2.1 dJ4_putVal_131 (by decide) ?_
          refine ro_istore X hl dJ4_putVal_132 (by decide) (fun ls hl => ?_)
          exact L n i 0 _ _ ls (by omega) hi him (by omega) w (hl.mask [true, true, true, true, true, true, true, true, true, true, false, false, true])
        · exact absurd rfl c109
      · exact absurd (nI_inj (by omega) (by omega) c69) (by have := hb i (by omega); omega)
  refine ro_aload_n X hl dJ4_putVal_0 rfl (by first | exact Or.inr ⟨_, rfl⟩ | exact Or.inl rfl | exact va_rf_or _) ?_
  refine gf_J4_105 X w dJ4_putVal_1 le0.o rfl ?_
  refine lv_dup X.1 X.2.1 dJ4_putVal_4 (hp_rf1 _) ?_
  refine ro_astore X hl dJ4_putVal_5 (by decide) (by first | exact Or.inr ⟨_, rfl⟩ | exact Or.inl rfl | exact va_rf_or _) (fun ls hl => ?_)
  cases tb with
  | none =>
    obtain ⟨hn0, -, hth0⟩ := hht.resolve_right (fun q => by obtain ⟨z, hz⟩ := q.1; cases hz)
    subst hth0
    refine lv_ifnullN (tgt := 19) X.1 X.2.1 dJ4_putVal_7 (by decide) ?_
    refine ro_aload_n X hl dJ4_putVal_19 rfl (by first | exact Or.inr ⟨_, rfl⟩ | exact Or.inl rfl | exact va_rf_or _) ?_
    refine ro_kE (cs_J4_117 X w le0.o (mt_J4_resize0 le0 ht) rfl rfl hl ⟨⟨Nat.le_of_ble_eq_true rfl, Nat.le_of_ble_eq_true rfl⟩, Nat.le_of_ble_eq_true rfl, Nat.le_of_ble_eq_true rfl⟩ (Nat.le_of_ble_eq_true rfl) dJ4_putVal_20) w (fun r20 h20 H locs hp20 w => ?_)
    obtain ⟨a, rfl, hp20⟩ := hp20
    refine lv_dup X.1 X.2.1 dJ4_putVal_23 rfl ?_
    refine ro_astore X hl dJ4_putVal_24 (by decide) (by first | exact Or.inr ⟨_, rfl⟩ | exact Or.inl rfl | exact va_rf_or _) (fun ls hl => ?_)
    refine ro_alenQ X w dJ4_putVal_26 (k := 4) rfl (hp20.1.tt a rfl) ?_
    refine ro_istore X hl dJ4_putVal_27 (by decide) (fun ls hl => ?_)
    exact J29 a 16 12 (fun _ => none) N0 m1 h20 _ _ ls _ _ (Nat.le_of_ble_eq_true rfl) (Nat.le_of_ble_eq_true rfl) (Or.inl ⟨rfl, rfl⟩) (by omega) hp20.1 ⟨⟨fun _ => none, fun b hb2 => ⟨rfl, fun k _ hk => by omega⟩⟩, fun k hk => by omega⟩ hp20.2 w (hl.mask [true, true, true, true, true, true, true, false, true, false, false, false, false])
  | some a =>
    obtain ⟨-, hcap0, hnth0, hFF, hNN⟩ := hht.resolve_left (fun q => by cases q.2.1)
    have hc16 : 16 ≤ cap0 ∧ cap0 ≤ 64 := by rcases hcap0 with ⟨z, -⟩ | ⟨z, -⟩ | ⟨z, -⟩ <;> omega
    refine lv_ifnull X.1 X.2.1 dJ4_putVal_7 ?_
    refine ro_aload X hl dJ4_putVal_10 rfl (by first | exact Or.inr ⟨_, rfl⟩ | exact Or.inl rfl | exact va_rf_or _) ?_
    refine ro_alenQ X w dJ4_putVal_12 (k := 4) rfl (le0.tt a rfl) ?_
    refine lv_dup X.1 X.2.1 dJ4_putVal_13 rfl ?_
    refine ro_istore X hl dJ4_putVal_14 (by decide) (fun ls hl => ?_)
    refine lv_if_ne (tgt := 29) X.1 X.2.1 dJ4_putVal_16 (by decide) (fun c16 => ?_) (fun c16 => ?_)
    · exact J29 a cap0 th0 T0 N0 m1 h _ _ ls _ _ (Nat.le_of_ble_eq_true rfl) (Nat.le_of_ble_eq_true rfl) hcap0 hnth0 le0 ⟨hFF, hNN⟩ (hp_fr.rf _ _) w (hl.mask [true, true, true, true, true, true, true, false, true, false, false, false, false])
    · exact absurd c16 (fun q => by have := nI_inj (a := cap0) (b := 0) (by omega) (by decide) q; omega)
theorem mt_J4_put {l : Launch} {G : hp_G} {B : Nat} {h : hp_H} {x t n t2 : Nat} {se pl : Int32} {vals : Option Nat} {hs ky vl ea : Nat → Nat} (lm : LM G t x n vals hs ky vl ea h) (ht : t ≠ 0) (hn : n < 40) (hb : ∀ i, i ≤ n → hs i < 64) (hmono : ∀ i j, i < j → j ≤ n → hs i < hs j) (hk : h (ky n) = some (t2, hp_ob 5 [.int se, .int pl])) (hkk : 4 * se + pl = nI (hs n)) : hp_M l G B yJ4_put cJ4_put 3 (some (.object "java/lang/Object")) 6 3 200 [.ref x, .ref (ky n), .ref (vl n)] h (hp_I .null (fun h1 => ∃ q, LM G t x (n + 1) vals hs ky vl (va_up ea n q) h1 ∧ hp_fr (fun q => q = t) h h1)) := by
  refine hp_M.of (by decide) 0 (List.forall_mem_cons.mpr ⟨rfl, (List.forall_mem_cons.mpr ⟨rfl, (List.forall_mem_cons.mpr ⟨rfl, (fun _ h => absurd h List.not_mem_nil)⟩)⟩)⟩) (Nat.le_of_ble_eq_true rfl) ?_
  intro p e s m below meth cd Q ls X hr hlk hnm w hl hQ
  have hl : hp_L ls 3 [some (.ref x), some (.ref (ky n)), some (.ref (vl n))] := hl
  obtain ⟨fs0, ho⟩ := lm.o
  refine ro_aload_n X hl dJ4_put_0 rfl (by first | exact Or.inr ⟨_, rfl⟩ | exact Or.inl rfl | exact va_rf_or _) ?_
  refine ro_aload_n X hl dJ4_put_1 rfl (by first | exact Or.inr ⟨_, rfl⟩ | exact Or.inl rfl | exact va_rf_or _) ?_
  refine ro_kJ (cs_J4_149 X w (mt_J4_hash hk hkk (hb n (Nat.le_refl n))) rfl rfl hl ⟨⟨Nat.le_of_ble_eq_true rfl, Nat.le_of_ble_eq_true rfl⟩, Nat.le_of_ble_eq_true rfl, Nat.le_of_ble_eq_true rfl⟩ (Nat.le_of_ble_eq_true rfl) dJ4_put_2) w (fun H locs w => ?_)
  refine ro_aload_n X hl dJ4_put_5 rfl (by first | exact Or.inr ⟨_, rfl⟩ | exact Or.inl rfl | exact va_rf_or _) ?_
  refine ro_aload_n X hl dJ4_put_6 rfl (by first | exact Or.inr ⟨_, rfl⟩ | exact Or.inl rfl | exact va_rf_or _) ?_
  refine lv_iconst (v := 0) X.1 X.2.1 dJ4_put_7 (by decide) ?_
  refine lv_iconst (v := 1) X.1 X.2.1 dJ4_put_8 (by decide) ?_
  refine ro_kI (cs_J4_152 X w ho (mt_J4_putVal lm ht hn hb hmono) rfl rfl hl ⟨⟨Nat.le_of_ble_eq_true rfl, Nat.le_of_ble_eq_true rfl⟩, Nat.le_of_ble_eq_true rfl, Nat.le_of_ble_eq_true rfl⟩ (Nat.le_of_ble_eq_true rfl) dJ4_put_9) w (fun h9 H locs hp9 w => ?_)
  exact ro_retA X w hQ hlk dJ4_put_12 hr (Or.inl ⟨_, rfl⟩) (by first | exact Or.inr ⟨_, rfl⟩ | exact Or.inl rfl | exact va_rf_or _) (Nat.le_of_ble_eq_true rfl) (Nat.le_of_ble_eq_true rfl) ⟨rfl, hp9⟩
