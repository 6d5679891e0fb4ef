/-! THE REFERENCE: its constructor (printed by tools/m19a.py) -/
set_option maxRecDepth 100000
def tn_fs (ad : Nat → Option Nat) : List Value := [.int 0, .int 0, va_rf (ad 2), va_rf (ad 3), va_rf (ad 4), va_rf (ad 5), .int 0, va_rf (ad 7), va_rf (ad 8), va_rf (ad 9), va_rf (ad 10), va_rf (ad 11), .int 0, .int 0, va_rf (ad 14), va_rf (ad 15), va_rf (ad 16), va_rf (ad 17), va_rf (ad 18), va_rf (ad 19), va_rf (ad 20), va_rf (ad 21), va_rf (ad 22), va_rf (ad 23), va_rf (ad 24), va_rf (ad 25), va_rf (ad 26), va_rf (ad 27), .int 0, .int 0]
/-- the object while it is made: some arrays are there -/
def TN (G : hp_G) (x : Nat) (ad : Nat → Option Nat) (h0 h : hp_H) : Prop := h x = some (1, hp_ob 2 (tn_fs ad)) ∧ (∀ k a, ad k = some a → h a = some (1, hp_ai G (tw_len k) (fun _ => 0))) ∧ (∀ i j a, ad i = some a → ad j = some a → i = j) ∧ hp_fr (fun t => t = 1) h0 h
theorem TN.put {G : hp_G} {x : Nat} {ad : Nat → Option Nat} {h0 h : hp_H} (t : TN G x ad h0 h) {q : Nat} (hq : h q = none) (k : Nat) (hset : (tn_fs ad).set k (.ref q) = tn_fs (va_up ad k (some q))) {n : Nat} (hn : tw_len k = n) :
    TN G x (va_up ad k (some q)) h0 (hp_up (hp_up h q (1, hp_ai G n (fun _ => 0))) x (1, hp_ob 2 ((tn_fs ad).set k (.ref q)))) := by
  obtain ⟨t1, t2, t3, t4⟩ := t
  subst hn
  have hx : hp_up h q (1, hp_ai G (tw_len k) (fun _ => 0)) x = some (1, hp_ob 2 (tn_fs ad)) := hp_up_f t1 hq
  refine ⟨by rw [hp_up_s, hset], fun i a hi => ?_, fun i j a hi hj => ?_, ?_⟩
  · by_cases e : i = k
    · subst e
      rw [show va_up ad i (some q) i = some q from if_pos rfl] at hi
      cases hi
      exact (hp_up_n (fun z => hp_ne_f t1 hq z.symm)).trans (hp_up_s _ _ _)
    · rw [show va_up ad k (some q) i = ad i from if_neg e] at hi
      exact hp_up_o (hp_up_f (t2 i a hi) hq) hx (fun z => by cases z)
  · by_cases ei : i = k
    · by_cases ej : j = k
      · exact ei.trans ej.symm
      · subst ei
        rw [show va_up ad i (some q) i = some q from if_pos rfl] at hi
        rw [show va_up ad i (some q) j = ad j from if_neg ej] at hj
        cases hi
        exact absurd (t2 j _ hj) (by rw [hq]; exact fun z => by cases z)
    · rw [show va_up ad k (some q) i = ad i from if_neg ei] at hi
      by_cases ej : j = k
      · subst ej
        rw [show va_up ad j (some q) j = some q from if_pos rfl] at hj
        cases hj
        exact absurd (t2 i _ hi) (by rw [hq]; exact fun z => by cases z)
      · rw [show va_up ad k (some q) j = ad j from if_neg ej] at hj
        exact t3 i j a hi hj
  · exact (t4.tr (hp_fr.of_le (fun a y e => hp_up_f e hq))).tr (hp_fr.up hx rfl)
theorem TN.new {G : hp_G} {x : Nat} {h : hp_H} (hx : h x = some (1, hp_ob 2 (tn_fs (fun _ => none)))) : TN G x (fun _ => none) h h := ⟨hx, fun k a e => (by cases e), fun i j a e => (by cases e), hp_fr.rf _ _⟩
def tT00 : tw_T := (fun _ => 0, fun _ _ => 0)
def tr_n : Nat → tw_T
  | 0 => tT00
  | i + 1 => tw_a (tr_n i) 5 i 10
/-- the start -/
def tT0 : tw_T := tr_n 4
theorem TN.tw {G : hp_G} {x : Nat} {ad : Nat → Option Nat} {h0 h : hp_H} (t : TN G x ad h0 h) (had : ∀ k, tw_arr k = true → ∃ a, ad k = some a) : TWf G x (fun k => (ad k).getD 0) h0 tT00 h := by
  obtain ⟨t1, t2, t3, t4⟩ := t
  have ha : ∀ k, tw_arr k = true → ad k = some ((ad k).getD 0) := fun k hk => by obtain ⟨a, e⟩ := had k hk; rw [e]; rfl
  refine ⟨⟨?_, fun k hk => t2 k _ (ha k hk), fun i j hi hj e => ?_⟩, t4⟩
  · rw [t1]
    unfold tn_fs
    rw [ha 2 rfl]
    rw [ha 3 rfl]
    rw [ha 4 rfl]
    rw [ha 5 rfl]
    rw [ha 7 rfl]
    rw [ha 8 rfl]
    rw [ha 9 rfl]
    rw [ha 10 rfl]
    rw [ha 11 rfl]
    rw [ha 14 rfl]
    rw [ha 15 rfl]
    rw [ha 16 rfl]
    rw [ha 17 rfl]
    rw [ha 18 rfl]
    rw [ha 19 rfl]
    rw [ha 20 rfl]
    rw [ha 21 rfl]
    rw [ha 22 rfl]
    rw [ha 23 rfl]
    rw [ha 24 rfl]
    rw [ha 25 rfl]
    rw [ha 26 rfl]
    rw [ha 27 rfl]
    rfl
  · exact t3 i j _ (ha i hi) ((ha j hj).trans (congrArg some e.symm))
theorem mt_X3_init {l : Launch} {G : hp_G} {B : Nat} {h : hp_H} {x : Nat} (hx : h x = some (1, hp_ob 2 (tn_fs (fun _ => none)))) : hp_M l G B yX3_init cX3_init 2 none 2 23 3048 [.ref x] h (hp_V (fun h1 => ∃ ad, TWf G x ad h tT0 h1)) := by
  refine hp_M.of (by decide) 1 (List.forall_mem_cons.mpr ⟨rfl, (fun _ h => absurd h List.not_mem_nil)⟩) (Nat.le_of_ble_eq_true rfl) ?_
  intro p e s m below meth cd Q ls X hr hlk hnm w hl hQ
  have hl : hp_L ls 2 [some (.ref x), none] := hl
  refine ro_aload_n X hl dX3_init_0 rfl (by first | exact Or.inr ⟨_, rfl⟩ | exact Or.inl rfl | exact va_rf_or _) ?_
  refine ro_oi X hl q1835 dX3_init_1 (Nat.le_of_ble_eq_true rfl) (Nat.le_of_ble_eq_true rfl) (Nat.le_of_ble_eq_true rfl) ?_
  have tn : TN G x (fun _ => none) h h := TN.new hx
  refine ro_aload_n X hl dX3_init_4 rfl (Or.inr ⟨_, rfl⟩) ?_
  refine lv_bipush (v := 16) X.1 X.2.1 dX3_init_5 (by decide) ?_
  refine ro_newa X w (atype := .int) q204 0 rfl dX3_init_7 (x := (16, Sum.inl (fun _ => 0))) (fun _ => rfl) (by decide) rfl 1 (by decide) (by decide) (Nat.le_of_ble_eq_true rfl) (Nat.le_of_ble_eq_true rfl) (fun q2 H hq w => ?_)
  refine pf_X3_7 X w dX3_init_9 hnm rfl rfl (hp_up_f tn.1 hq) (by decide) (Nat.le_of_ble_eq_true rfl) (fun H locs w => ?_)
  replace tn := tn.put hq 2 rfl rfl
  refine ro_aload_n X hl dX3_init_12 rfl (Or.inr ⟨_, rfl⟩) ?_
  refine lv_bipush (v := 16) X.1 X.2.1 dX3_init_13 (by decide) ?_
  refine ro_newa X w (atype := .int) q204 0 rfl dX3_init_15 (x := (16, Sum.inl (fun _ => 0))) (fun _ => rfl) (by decide) rfl 1 (by decide) (by decide) (Nat.le_of_ble_eq_true rfl) (Nat.le_of_ble_eq_true rfl) (fun q3 H hq w => ?_)
  refine pf_X3_13 X w dX3_init_17 hnm rfl rfl (hp_up_f tn.1 hq) (by decide) (Nat.le_of_ble_eq_true rfl) (fun H locs w => ?_)
  replace tn := tn.put hq 3 rfl rfl
  refine ro_aload_n X hl dX3_init_20 rfl (Or.inr ⟨_, rfl⟩) ?_
  refine lv_bipush (v := 16) X.1 X.2.1 dX3_init_21 (by decide) ?_
  refine ro_newa X w (atype := .int) q204 0 rfl dX3_init_23 (x := (16, Sum.inl (fun _ => 0))) (fun _ => rfl) (by decide) rfl 1 (by decide) (by decide) (Nat.le_of_ble_eq_true rfl) (Nat.le_of_ble_eq_true rfl) (fun q4 H hq w => ?_)
  refine pf_X3_16 X w dX3_init_25 hnm rfl rfl (hp_up_f tn.1 hq) (by decide) (Nat.le_of_ble_eq_true rfl) (fun H locs w => ?_)
  replace tn := tn.put hq 4 rfl rfl
  refine ro_aload_n X hl dX3_init_28 rfl (Or.inr ⟨_, rfl⟩) ?_
  refine lv_iconst (v := 4) X.1 X.2.1 dX3_init_29 (by decide) ?_
  refine ro_newa X w (atype := .int) q204 0 rfl dX3_init_30 (x := (4, Sum.inl (fun _ => 0))) (fun _ => rfl) (by decide) rfl 1 (by decide) (by decide) (Nat.le_of_ble_eq_true rfl) (Nat.le_of_ble_eq_true rfl) (fun q5 H hq w => ?_)
  refine pf_X3_19 X w dX3_init_32 hnm rfl rfl (hp_up_f tn.1 hq) (by decide) (Nat.le_of_ble_eq_true rfl) (fun H locs w => ?_)
  replace tn := tn.put hq 5 rfl rfl
  refine ro_aload_n X hl dX3_init_35 rfl (Or.inr ⟨_, rfl⟩) ?_
  refine lv_bipush (v := 100) X.1 X.2.1 dX3_init_36 (by decide) ?_
  refine ro_newa X w (atype := .int) q204 0 rfl dX3_init_38 (x := (100, Sum.inl (fun _ => 0))) (fun _ => rfl) (by decide) rfl 1 (by decide) (by decide) (Nat.le_of_ble_eq_true rfl) (Nat.le_of_ble_eq_true rfl) (fun q7 H hq w => ?_)
  refine pf_X3_22 X w dX3_init_40 hnm rfl rfl (hp_up_f tn.1 hq) (by decide) (Nat.le_of_ble_eq_true rfl) (fun H locs w => ?_)
  replace tn := tn.put hq 7 rfl rfl
  refine ro_aload_n X hl dX3_init_43 rfl (Or.inr ⟨_, rfl⟩) ?_
  refine lv_bipush (v := 100) X.1 X.2.1 dX3_init_44 (by decide) ?_
  refine ro_newa X w (atype := .int) q204 0 rfl dX3_init_46 (x := (100, Sum.inl (fun _ => 0))) (fun _ => rfl) (by decide) rfl 1 (by decide) (by decide) (Nat.le_of_ble_eq_true rfl) (Nat.le_of_ble_eq_true rfl) (fun q8 H hq w => ?_)
  refine pf_X3_25 X w dX3_init_48 hnm rfl rfl (hp_up_f tn.1 hq) (by decide) (Nat.le_of_ble_eq_true rfl) (fun H locs w => ?_)
  replace tn := tn.put hq 8 rfl rfl
  refine ro_aload_n X hl dX3_init_51 rfl (Or.inr ⟨_, rfl⟩) ?_
  refine lv_bipush (v := 100) X.1 X.2.1 dX3_init_52 (by decide) ?_
  refine ro_newa X w (atype := .int) q204 0 rfl dX3_init_54 (x := (100, Sum.inl (fun _ => 0))) (fun _ => rfl) (by decide) rfl 1 (by decide) (by decide) (Nat.le_of_ble_eq_true rfl) (Nat.le_of_ble_eq_true rfl) (fun q9 H hq w => ?_)
  refine pf_X3_28 X w dX3_init_56 hnm rfl rfl (hp_up_f tn.1 hq) (by decide) (Nat.le_of_ble_eq_true rfl) (fun H locs w => ?_)
  replace tn := tn.put hq 9 rfl rfl
  refine ro_aload_n X hl dX3_init_59 rfl (Or.inr ⟨_, rfl⟩) ?_
  refine lv_bipush (v := 100) X.1 X.2.1 dX3_init_60 (by decide) ?_
  refine ro_newa X w (atype := .int) q204 0 rfl dX3_init_62 (x := (100, Sum.inl (fun _ => 0))) (fun _ => rfl) (by decide) rfl 1 (by decide) (by decide) (Nat.le_of_ble_eq_true rfl) (Nat.le_of_ble_eq_true rfl) (fun q10 H hq w => ?_)
  refine pf_X3_31 X w dX3_init_64 hnm rfl rfl (hp_up_f tn.1 hq) (by decide) (Nat.le_of_ble_eq_true rfl) (fun H locs w => ?_)
  replace tn := tn.put hq 10 rfl rfl
  refine ro_aload_n X hl dX3_init_67 rfl (Or.inr ⟨_, rfl⟩) ?_
  refine lv_bipush (v := 100) X.1 X.2.1 dX3_init_68 (by decide) ?_
  refine ro_newa X w (atype := .int) q204 0 rfl dX3_init_70 (x := (100, Sum.inl (fun _ => 0))) (fun _ => rfl) (by decide) rfl 1 (by decide) (by decide) (Nat.le_of_ble_eq_true rfl) (Nat.le_of_ble_eq_true rfl) (fun q11 H hq w => ?_)
  refine pf_X3_34 X w dX3_init_72 hnm rfl rfl (hp_up_f tn.1 hq) (by decide) (Nat.le_of_ble_eq_true rfl) (fun H locs w => ?_)
  replace tn := tn.put hq 11 rfl rfl
  refine ro_aload_n X hl dX3_init_75 rfl (Or.inr ⟨_, rfl⟩) ?_
  refine lv_bipush (v := 36) X.1 X.2.1 dX3_init_76 (by decide) ?_
  refine ro_newa X w (atype := .int) q204 0 rfl dX3_init_78 (x := (36, Sum.inl (fun _ => 0))) (fun _ => rfl) (by decide) rfl 1 (by decide) (by decide) (Nat.le_of_ble_eq_true rfl) (Nat.le_of_ble_eq_true rfl) (fun q14 H hq w => ?_)
  refine pf_X3_37 X w dX3_init_80 hnm rfl rfl (hp_up_f tn.1 hq) (by decide) (Nat.le_of_ble_eq_true rfl) (fun H locs w => ?_)
  replace tn := tn.put hq 14 rfl rfl
  refine ro_aload_n X hl dX3_init_83 rfl (Or.inr ⟨_, rfl⟩) ?_
  refine lv_bipush (v := 36) X.1 X.2.1 dX3_init_84 (by decide) ?_
  refine ro_newa X w (atype := .int) q204 0 rfl dX3_init_86 (x := (36, Sum.inl (fun _ => 0))) (fun _ => rfl) (by decide) rfl 1 (by decide) (by decide) (Nat.le_of_ble_eq_true rfl) (Nat.le_of_ble_eq_true rfl) (fun q15 H hq w => ?_)
  refine pf_X3_40 X w dX3_init_88 hnm rfl rfl (hp_up_f tn.1 hq) (by decide) (Nat.le_of_ble_eq_true rfl) (fun H locs w => ?_)
  replace tn := tn.put hq 15 rfl rfl
  refine ro_aload_n X hl dX3_init_91 rfl (Or.inr ⟨_, rfl⟩) ?_
  refine lv_bipush (v := 36) X.1 X.2.1 dX3_init_92 (by decide) ?_
  refine ro_newa X w (atype := .int) q204 0 rfl dX3_init_94 (x := (36, Sum.inl (fun _ => 0))) (fun _ => rfl) (by decide) rfl 1 (by decide) (by decide) (Nat.le_of_ble_eq_true rfl) (Nat.le_of_ble_eq_true rfl) (fun q16 H hq w => ?_)
  refine pf_X3_43 X w dX3_init_96 hnm rfl rfl (hp_up_f tn.1 hq) (by decide) (Nat.le_of_ble_eq_true rfl) (fun H locs w => ?_)
  replace tn := tn.put hq 16 rfl rfl
  refine ro_aload_n X hl dX3_init_99 rfl (Or.inr ⟨_, rfl⟩) ?_
  refine lv_bipush (v := 36) X.1 X.2.1 dX3_init_100 (by decide) ?_
  refine ro_newa X w (atype := .int) q204 0 rfl dX3_init_102 (x := (36, Sum.inl (fun _ => 0))) (fun _ => rfl) (by decide) rfl 1 (by decide) (by decide) (Nat.le_of_ble_eq_true rfl) (Nat.le_of_ble_eq_true rfl) (fun q17 H hq w => ?_)
  refine pf_X3_46 X w dX3_init_104 hnm rfl rfl (hp_up_f tn.1 hq) (by decide) (Nat.le_of_ble_eq_true rfl) (fun H locs w => ?_)
  replace tn := tn.put hq 17 rfl rfl
  refine ro_aload_n X hl dX3_init_107 rfl (Or.inr ⟨_, rfl⟩) ?_
  refine lv_bipush (v := 36) X.1 X.2.1 dX3_init_108 (by decide) ?_
  refine ro_newa X w (atype := .int) q204 0 rfl dX3_init_110 (x := (36, Sum.inl (fun _ => 0))) (fun _ => rfl) (by decide) rfl 1 (by decide) (by decide) (Nat.le_of_ble_eq_true rfl) (Nat.le_of_ble_eq_true rfl) (fun q18 H hq w => ?_)
  refine pf_X3_49 X w dX3_init_112 hnm rfl rfl (hp_up_f tn.1 hq) (by decide) (Nat.le_of_ble_eq_true rfl) (fun H locs w => ?_)
  replace tn := tn.put hq 18 rfl rfl
  refine ro_aload_n X hl dX3_init_115 rfl (Or.inr ⟨_, rfl⟩) ?_
  refine lv_bipush (v := 36) X.1 X.2.1 dX3_init_116 (by decide) ?_
  refine ro_newa X w (atype := .int) q204 0 rfl dX3_init_118 (x := (36, Sum.inl (fun _ => 0))) (fun _ => rfl) (by decide) rfl 1 (by decide) (by decide) (Nat.le_of_ble_eq_true rfl) (Nat.le_of_ble_eq_true rfl) (fun q19 H hq w => ?_)
  refine pf_X3_52 X w dX3_init_120 hnm rfl rfl (hp_up_f tn.1 hq) (by decide) (Nat.le_of_ble_eq_true rfl) (fun H locs w => ?_)
  replace tn := tn.put hq 19 rfl rfl
  refine ro_aload_n X hl dX3_init_123 rfl (Or.inr ⟨_, rfl⟩) ?_
  refine lv_bipush (v := 36) X.1 X.2.1 dX3_init_124 (by decide) ?_
  refine ro_newa X w (atype := .int) q204 0 rfl dX3_init_126 (x := (36, Sum.inl (fun _ => 0))) (fun _ => rfl) (by decide) rfl 1 (by decide) (by decide) (Nat.le_of_ble_eq_true rfl) (Nat.le_of_ble_eq_true rfl) (fun q20 H hq w => ?_)
  refine pf_X3_55 X w dX3_init_128 hnm rfl rfl (hp_up_f tn.1 hq) (by decide) (Nat.le_of_ble_eq_true rfl) (fun H locs w => ?_)
  replace tn := tn.put hq 20 rfl rfl
  refine ro_aload_n X hl dX3_init_131 rfl (Or.inr ⟨_, rfl⟩) ?_
  refine lv_bipush (v := 36) X.1 X.2.1 dX3_init_132 (by decide) ?_
  refine ro_newa X w (atype := .int) q204 0 rfl dX3_init_134 (x := (36, Sum.inl (fun _ => 0))) (fun _ => rfl) (by decide) rfl 1 (by decide) (by decide) (Nat.le_of_ble_eq_true rfl) (Nat.le_of_ble_eq_true rfl) (fun q21 H hq w => ?_)
  refine pf_X3_58 X w dX3_init_136 hnm rfl rfl (hp_up_f tn.1 hq) (by decide) (Nat.le_of_ble_eq_true rfl) (fun H locs w => ?_)
  replace tn := tn.put hq 21 rfl rfl
  refine ro_aload_n X hl dX3_init_139 rfl (Or.inr ⟨_, rfl⟩) ?_
  refine lv_sipush (v := 720) X.1 X.2.1 dX3_init_140 (by decide) ?_
  refine ro_newa X w (atype := .int) q204 0 rfl dX3_init_143 (x := (720, Sum.inl (fun _ => 0))) (fun _ => rfl) (by decide) rfl 1 (by decide) (by decide) (Nat.le_of_ble_eq_true rfl) (Nat.le_of_ble_eq_true rfl) (fun q22 H hq w => ?_)
  refine pf_X3_61 X w dX3_init_145 hnm rfl rfl (hp_up_f tn.1 hq) (by decide) (Nat.le_of_ble_eq_true rfl) (fun H locs w => ?_)
  replace tn := tn.put hq 22 rfl rfl
  refine ro_aload_n X hl dX3_init_148 rfl (Or.inr ⟨_, rfl⟩) ?_
  refine lv_sipush (v := 720) X.1 X.2.1 dX3_init_149 (by decide) ?_
  refine ro_newa X w (atype := .int) q204 0 rfl dX3_init_152 (x := (720, Sum.inl (fun _ => 0))) (fun _ => rfl) (by decide) rfl 1 (by decide) (by decide) (Nat.le_of_ble_eq_true rfl) (Nat.le_of_ble_eq_true rfl) (fun q23 H hq w => ?_)
  refine pf_X3_64 X w dX3_init_154 hnm rfl rfl (hp_up_f tn.1 hq) (by decide) (Nat.le_of_ble_eq_true rfl) (fun H locs w => ?_)
  replace tn := tn.put hq 23 rfl rfl
  refine ro_aload_n X hl dX3_init_157 rfl (Or.inr ⟨_, rfl⟩) ?_
  refine lv_sipush (v := 720) X.1 X.2.1 dX3_init_158 (by decide) ?_
  refine ro_newa X w (atype := .int) q204 0 rfl dX3_init_161 (x := (720, Sum.inl (fun _ => 0))) (fun _ => rfl) (by decide) rfl 1 (by decide) (by decide) (Nat.le_of_ble_eq_true rfl) (Nat.le_of_ble_eq_true rfl) (fun q24 H hq w => ?_)
  refine pf_X3_67 X w dX3_init_163 hnm rfl rfl (hp_up_f tn.1 hq) (by decide) (Nat.le_of_ble_eq_true rfl) (fun H locs w => ?_)
  replace tn := tn.put hq 24 rfl rfl
  refine ro_aload_n X hl dX3_init_166 rfl (Or.inr ⟨_, rfl⟩) ?_
  refine lv_bipush (v := 16) X.1 X.2.1 dX3_init_167 (by decide) ?_
  refine ro_newa X w (atype := .int) q204 0 rfl dX3_init_169 (x := (16, Sum.inl (fun _ => 0))) (fun _ => rfl) (by decide) rfl 1 (by decide) (by decide) (Nat.le_of_ble_eq_true rfl) (Nat.le_of_ble_eq_true rfl) (fun q25 H hq w => ?_)
  refine pf_X3_70 X w dX3_init_171 hnm rfl rfl (hp_up_f tn.1 hq) (by decide) (Nat.le_of_ble_eq_true rfl) (fun H locs w => ?_)
  replace tn := tn.put hq 25 rfl rfl
  refine ro_aload_n X hl dX3_init_174 rfl (Or.inr ⟨_, rfl⟩) ?_
  refine lv_bipush (v := 16) X.1 X.2.1 dX3_init_175 (by decide) ?_
  refine ro_newa X w (atype := .int) q204 0 rfl dX3_init_177 (x := (16, Sum.inl (fun _ => 0))) (fun _ => rfl) (by decide) rfl 1 (by decide) (by decide) (Nat.le_of_ble_eq_true rfl) (Nat.le_of_ble_eq_true rfl) (fun q26 H hq w => ?_)
  refine pf_X3_73 X w dX3_init_179 hnm rfl rfl (hp_up_f tn.1 hq) (by decide) (Nat.le_of_ble_eq_true rfl) (fun H locs w => ?_)
  replace tn := tn.put hq 26 rfl rfl
  refine ro_aload_n X hl dX3_init_182 rfl (Or.inr ⟨_, rfl⟩) ?_
  refine lv_bipush (v := 16) X.1 X.2.1 dX3_init_183 (by decide) ?_
  refine ro_newa X w (atype := .int) q204 0 rfl dX3_init_185 (x := (16, Sum.inl (fun _ => 0))) (fun _ => rfl) (by decide) rfl 1 (by decide) (by decide) (Nat.le_of_ble_eq_true rfl) (Nat.le_of_ble_eq_true rfl) (fun q27 H hq w => ?_)
  refine pf_X3_76 X w dX3_init_187 hnm rfl rfl (hp_up_f tn.1 hq) (by decide) (Nat.le_of_ble_eq_true rfl) (fun H locs w => ?_)
  replace tn := tn.put hq 27 rfl rfl
  obtain ⟨ad, had⟩ : ∃ ad : Nat → Option Nat, ad = va_up (va_up (va_up (va_up (va_up (va_up (va_up (va_up (va_up (va_up (va_up (va_up (va_up (va_up (va_up (va_up (va_up (va_up (va_up (va_up (va_up (va_up (va_up (fun _ => none) 2 (some q2)) 3 (some q3)) 4 (some q4)) 5 (some q5)) 7 (some q7)) 8 (some q8)) 9 (some q9)) 10 (some q10)) 11 (some q11)) 14 (some q14)) 15 (some q15)) 16 (some q16)) 17 (some q17)) 18 (some q18)) 19 (some q19)) 20 (some q20)) 21 (some q21)) 22 (some q22)) 23 (some q23)) 24 (some q24)) 25 (some q25)) 26 (some q26)) 27 (some q27) := ⟨_, rfl⟩
  rw [← had] at tn
  have tw := tn.tw (by
    intro k hk
    subst had
    match k, hk with
    | 0, hk => exact absurd hk (by decide)
    | 1, hk => exact absurd hk (by decide)
    | 2, _ => exact ⟨_, rfl⟩
    | 3, _ => exact ⟨_, rfl⟩
    | 4, _ => exact ⟨_, rfl⟩
    | 5, _ => exact ⟨_, rfl⟩
    | 6, hk => exact absurd hk (by decide)
    | 7, _ => exact ⟨_, rfl⟩
    | 8, _ => exact ⟨_, rfl⟩
    | 9, _ => exact ⟨_, rfl⟩
    | 10, _ => exact ⟨_, rfl⟩
    | 11, _ => exact ⟨_, rfl⟩
    | 12, hk => exact absurd hk (by decide)
    | 13, hk => exact absurd hk (by decide)
    | 14, _ => exact ⟨_, rfl⟩
    | 15, _ => exact ⟨_, rfl⟩
    | 16, _ => exact ⟨_, rfl⟩
    | 17, _ => exact ⟨_, rfl⟩
    | 18, _ => exact ⟨_, rfl⟩
    | 19, _ => exact ⟨_, rfl⟩
    | 20, _ => exact ⟨_, rfl⟩
    | 21, _ => exact ⟨_, rfl⟩
    | 22, _ => exact ⟨_, rfl⟩
    | 23, _ => exact ⟨_, rfl⟩
    | 24, _ => exact ⟨_, rfl⟩
    | 25, _ => exact ⟨_, rfl⟩
    | 26, _ => exact ⟨_, rfl⟩
    | 27, _ => exact ⟨_, rfl⟩
    | k + 28, hk => exact absurd hk (by unfold tw_arr; simp))
  refine lv_iconst (v := 0) X.1 X.2.1 dX3_init_190 (by decide) ?_
  refine ro_istore_n X hl dX3_init_191 (by decide) (fun ls hl => ?_)
  have key : ∀ (n i : Nat) (h1 : hp_H) (H : Heap) (locs : List Loc) (ls : Array Slot), i + n = 4 → TWf G x (fun k => (ad k).getD 0) h (tr_n i) h1 → hp_Ws G B h1 s H locs → hp_L ls 2 [some (.ref x), some (.int (nI i))] → W p l e (hp_rm 2 23 3048) s m ([.ref x] : List Value).toArray below meth cd H locs 23 3048 Q (F0 m 192 ls []) := by
    intro n
    induction n with
    | zero =>
      intro i h1 H locs ls hi tw w hl
      have hi : i = 4 := by omega
      refine ro_iload_n X hl dX3_init_192 rfl ?_
      refine lv_iconst (v := 4) X.1 X.2.1 dX3_init_193 (by decide) ?_
      refine lv_icmp_ge (tgt := 211) X.1 X.2.1 dX3_init_194 (by decide) (fun c194 => ?_) (fun c194 => ?_)
      · subst hi
        exact ro_ret0 X w hQ hlk dX3_init_211 hr (Nat.le_of_ble_eq_true rfl) (Nat.le_of_ble_eq_true rfl) ⟨rfl, _, tw⟩
      · exact absurd (by rw [hi]; decide) c194
    | succ n ih =>
      intro i h1 H locs ls hi tw w hl
      have eU : tr_n (i + 1) = tw_a (tr_n i) 5 i 10 := rfl
      generalize tr_n i = U at tw eU
      refine ro_iload_n X hl dX3_init_192 rfl ?_
      refine lv_iconst (v := 4) X.1 X.2.1 dX3_init_193 (by decide) ?_
      refine lv_icmp_ge (tgt := 211) X.1 X.2.1 dX3_init_194 (by decide) (fun c194 => ?_) (fun c194 => ?_)
      · exact absurd c194 (by rw [show (4 : Int32) = nI 4 from rfl]; exact nI_ge (by omega) (by decide))
      · refine ro_aload_n X hl dX3_init_197 rfl (by first | exact Or.inr ⟨_, rfl⟩ | exact Or.inl rfl | exact va_rf_or _) ?_
        refine gf_X3_19 X w dX3_init_198 tw.o rfl ?_
        refine ro_iload_n X hl dX3_init_201 rfl ?_
        refine lv_bipush (v := 10) X.1 X.2.1 dX3_init_202 (by decide) ?_
        refine tw_iast X w tw 5 (n := 4) rfl rfl dX3_init_204 rfl (by omega) (by decide) (fun h H locs w tw => ?_)
        refine ro_iinc X hl dX3_init_205 (by decide) rfl (fun ls hl => ?_)
        rw [hp_ni] at hl
        refine lv_goto (tgt := 192) X.1 X.2.1 dX3_init_208 (by decide) ?_
        exact ih (i + 1) _ _ _ _ (by omega) (tw.cast eU) w hl
  exact key 4 0 _ _ _ ls rfl tw w hl
