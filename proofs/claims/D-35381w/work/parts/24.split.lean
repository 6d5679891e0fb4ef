/-! THE MAP: a bucket is split in two, in plain -/
set_option maxRecDepth 100000
abbrev FIc (cnt c : Nat) (hs : Nat → Nat) (k : Nat) (o : Option Nat) : Prop := FI (fun j => hs j % c = hs k % c) (k + 1) cnt o
/-- entries below i of bucket j are split: heads and tails of both lists, and the nexts -/
def CSt (cnt cap j i : Nat) (LH LT HH HT : Option Nat) (N : Nat → Option Nat) (hs : Nat → Nat) : Prop :=
  LA (fun k => hs k % (cap * 2) = j) i LT ∧ LA (fun k => hs k % (cap * 2) = j + cap) i HT ∧ FI (fun k => hs k % (cap * 2) = j) 0 i LH ∧ FI (fun k => hs k % (cap * 2) = j + cap) 0 i HH ∧
  (∀ k, k < cnt → hs k % cap < j → FIc cnt (cap * 2) hs k (N k)) ∧ (∀ k, k < cnt → j < hs k % cap → FIc cnt cap hs k (N k)) ∧
  (∀ k, k < cnt → hs k % cap = j → i ≤ k → FIc cnt cap hs k (N k)) ∧ (∀ k, k < cnt → hs k % cap = j → k < i → some k ≠ LT → some k ≠ HT → FIc cnt (cap * 2) hs k (N k))
theorem cs_mod {h cap j : Nat} (hj : j < cap) : (h % (cap * 2) = j → h % cap = j) ∧ (h % (cap * 2) = j + cap → h % cap = j) := by
  constructor
  · intro e
    have := Nat.mod_mul_right_mod h cap 2
    rw [e, Nat.mod_eq_of_lt hj] at this
    exact this.symm
  · intro e
    have := Nat.mod_mul_right_mod h cap 2
    rw [e, Nat.add_mod_right, Nat.mod_eq_of_lt hj] at this
    exact this.symm
theorem cs_or {h cap j : Nat} (hc : 0 < cap) (e : h % cap = j) : h % (cap * 2) = j ∨ h % (cap * 2) = j + cap := by
  have h1 : h % (cap * 2) = h % cap + cap * (h / cap % 2) := Nat.mod_mul
  rw [e] at h1
  rcases Nat.mod_two_eq_zero_or_one (h / cap) with z | z
  · rw [z] at h1; left; omega
  · rw [z] at h1; right; omega
section CSs
variable {cnt cap j i : Nat} {LH LT HH HT : Option Nat} {N : Nat → Option Nat} {hs : Nat → Nat}
theorem CSt.start (hc : 0 < cap) (hj : j < cap) (h1 : ∀ k, k < cnt → hs k % cap < j → FIc cnt (cap * 2) hs k (N k)) (h2 : ∀ k, k < cnt → j ≤ hs k % cap → FIc cnt cap hs k (N k)) (hi : ∀ k, k < i → ¬ hs k % cap = j) : CSt cnt cap j i none none none none N hs :=
  ⟨fun k hk e => hi k hk ((cs_mod hj).1 e), fun k hk e => hi k hk ((cs_mod hj).2 e), fun k _ hk e => hi k hk ((cs_mod hj).1 e), fun k _ hk e => hi k hk ((cs_mod hj).2 e), h1, fun k hk e => h2 k hk (Nat.le_of_lt e), fun k hk e _ => h2 k hk (Nat.le_of_eq e.symm), fun k hk e hk2 => absurd e (hi k hk2)⟩
theorem CSt.skip {i2 : Nat} (c : CSt cnt cap j i LH LT HH HT N hs) (hj : j < cap) (hi : i ≤ i2) (e : ∀ k, i ≤ k → k < i2 → ¬ hs k % cap = j) : CSt cnt cap j i2 LH LT HH HT N hs := by
  obtain ⟨c1, c2, c3, c4, c5, c6, c7, c8⟩ := c
  refine ⟨c1.step hi (fun k h1 h2 q => e k h1 h2 ((cs_mod hj).1 q)), c2.step hi (fun k h1 h2 q => e k h1 h2 ((cs_mod hj).2 q)), c3.step hi (fun k h1 h2 q => e k h1 h2 ((cs_mod hj).1 q)), c4.step hi (fun k h1 h2 q => e k h1 h2 ((cs_mod hj).2 q)), c5, c6, fun k h1 h2 h3 => c7 k h1 h2 (Nat.le_trans hi h3), fun k h1 h2 h3 => ?_⟩
  rcases Nat.lt_or_ge k i with z | z
  · exact c8 k h1 h2 z
  · exact absurd h2 (e k z h3)
theorem CSt.lo1 (c : CSt cnt cap j i LH none HH HT N hs) (hcap : 0 < cap) (hi : i < cnt) (e : hs i % (cap * 2) = j) (e0 : hs i % cap = j) : CSt cnt cap j (i + 1) (some i) (some i) HH HT N hs := by
  obtain ⟨c1, c2, c3, c4, c5, c6, c7, c8⟩ := c
  have hne : ¬ hs i % (cap * 2) = j + cap := by omega
  refine ⟨⟨Nat.lt_succ_self i, e, fun k h1 h2 => by omega⟩, c2.step (Nat.le_succ i) (fun k h1 h2 q => ?_), ⟨Nat.zero_le _, Nat.lt_succ_self i, e, fun k _ h2 => c1 k h2⟩, c4.step (Nat.le_succ i) (fun k h1 h2 q => ?_), c5, c6, fun k h1 h2 h3 => c7 k h1 h2 (by omega), fun k h1 h2 h3 h4 h5 => ?_⟩
  · have : k = i := by omega
    subst this; exact hne q
  · have : k = i := by omega
    subst this; exact hne q
  · have hki : k ≠ i := fun q => h4 (by rw [q])
    exact c8 k h1 h2 (by omega) (fun q => by cases q) h5
theorem CSt.hi1 (c : CSt cnt cap j i LH LT HH none N hs) (hcap : 0 < cap) (hi : i < cnt) (e : hs i % (cap * 2) = j + cap) (e0 : hs i % cap = j) : CSt cnt cap j (i + 1) LH LT (some i) (some i) N hs := by
  obtain ⟨c1, c2, c3, c4, c5, c6, c7, c8⟩ := c
  have hne : ¬ hs i % (cap * 2) = j := by omega
  refine ⟨c1.step (Nat.le_succ i) (fun k h1 h2 q => ?_), ⟨Nat.lt_succ_self i, e, fun k h1 h2 => by omega⟩, c3.step (Nat.le_succ i) (fun k h1 h2 q => ?_), ⟨Nat.zero_le _, Nat.lt_succ_self i, e, fun k _ h2 => c2 k h2⟩, c5, c6, fun k h1 h2 h3 => c7 k h1 h2 (by omega), fun k h1 h2 h3 h4 h5 => ?_⟩
  · have : k = i := by omega
    subst this; exact hne q
  · have : k = i := by omega
    subst this; exact hne q
  · have hki : k ≠ i := fun q => h5 (by rw [q])
    exact c8 k h1 h2 (by omega) h4 (fun q => by cases q)
theorem CSt.lo2 {lt : Nat} (c : CSt cnt cap j i LH (some lt) HH HT N hs) (hcap : 0 < cap) (hj : j < cap) (hi : i < cnt) (e : hs i % (cap * 2) = j) (e0 : hs i % cap = j) : CSt cnt cap j (i + 1) LH (some i) HH HT (va_up N lt (some i)) hs := by
  obtain ⟨c1, c2, c3, c4, c5, c6, c7, c8⟩ := c
  obtain ⟨d1, d2, d3⟩ := c1
  have hne : ¬ hs i % (cap * 2) = j + cap := by omega
  have dm := (cs_mod hj).1 d2
  have hi1 : ∀ k, i ≤ k → k < i + 1 → k = i := fun k _ _ => by omega
  have hH : FI (fun k => hs k % (cap * 2) = j) 0 (i + 1) LH := by
    cases LH with
    | none => exact absurd d2 (c3 lt (Nat.zero_le _) d1)
    | some z => exact c3.growS
  refine ⟨⟨Nat.lt_succ_self i, e, fun k h1 h2 => by omega⟩, c2.step (Nat.le_succ i) (fun k h1 h2 q => hne (hi1 k h1 h2 ▸ q)), hH, c4.step (Nat.le_succ i) (fun k h1 h2 q => hne (hi1 k h1 h2 ▸ q)), fun k h1 h2 => ?_, fun k h1 h2 => ?_, fun k h1 h2 h3 => ?_, fun k h1 h2 h3 h4 h5 => ?_⟩
  · rw [va_up_n N (some i) (show k ≠ lt by intro q; subst q; omega)]
    exact c5 k h1 h2
  · rw [va_up_n N (some i) (show k ≠ lt by intro q; subst q; omega)]
    exact c6 k h1 h2
  · rw [va_up_n N (some i) (show k ≠ lt by omega)]
    exact c7 k h1 h2 (by omega)
  · have hki : k ≠ i := fun q => h4 (by rw [q])
    by_cases z : k = lt
    · subst z
      rw [va_up_s]
      exact ⟨by omega, hi, e.trans d2.symm, fun a h6 h7 q => d3 a (by omega) h7 (q.trans d2)⟩
    · rw [va_up_n N (some i) z]
      exact c8 k h1 h2 (by omega) (fun q => z (by cases q; rfl)) h5
theorem CSt.hi2 {lt : Nat} (c : CSt cnt cap j i LH LT HH (some lt) N hs) (hcap : 0 < cap) (hj : j < cap) (hi : i < cnt) (e : hs i % (cap * 2) = j + cap) (e0 : hs i % cap = j) : CSt cnt cap j (i + 1) LH LT HH (some i) (va_up N lt (some i)) hs := by
  obtain ⟨c1, c2, c3, c4, c5, c6, c7, c8⟩ := c
  obtain ⟨d1, d2, d3⟩ := c2
  have hne : ¬ hs i % (cap * 2) = j := by omega
  have dm := (cs_mod hj).2 d2
  have hi1 : ∀ k, i ≤ k → k < i + 1 → k = i := fun k _ _ => by omega
  have hH : FI (fun k => hs k % (cap * 2) = j + cap) 0 (i + 1) HH := by
    cases HH with
    | none => exact absurd d2 (c4 lt (Nat.zero_le _) d1)
    | some z => exact c4.growS
  refine ⟨c1.step (Nat.le_succ i) (fun k h1 h2 q => hne (hi1 k h1 h2 ▸ q)), ⟨Nat.lt_succ_self i, e, fun k h1 h2 => by omega⟩, c3.step (Nat.le_succ i) (fun k h1 h2 q => hne (hi1 k h1 h2 ▸ q)), hH, fun k h1 h2 => ?_, fun k h1 h2 => ?_, fun k h1 h2 h3 => ?_, fun k h1 h2 h3 h4 h5 => ?_⟩
  · rw [va_up_n N (some i) (show k ≠ lt by intro q; subst q; omega)]
    exact c5 k h1 h2
  · rw [va_up_n N (some i) (show k ≠ lt by intro q; subst q; omega)]
    exact c6 k h1 h2
  · rw [va_up_n N (some i) (show k ≠ lt by omega)]
    exact c7 k h1 h2 (by omega)
  · have hki : k ≠ i := fun q => h5 (by rw [q])
    by_cases z : k = lt
    · subst z
      rw [va_up_s]
      exact ⟨by omega, hi, e.trans d2.symm, fun a h6 h7 q => d3 a (by omega) h7 (q.trans d2)⟩
    · rw [va_up_n N (some i) z]
      exact c8 k h1 h2 (by omega) h4 (fun q => z (by cases q; rfl))
/-- the end: both tails' nexts are cleared -/
theorem CSt.fin (c : CSt cnt cap j cnt LH LT HH HT N hs) (hcap : 0 < cap) (hj : j < cap) {N2 : Nat → Option Nat} (h2 : ∀ k, (some k = LT ∨ some k = HT → N2 k = none) ∧ (some k ≠ LT → some k ≠ HT → N2 k = N k)) :
    (∀ k, k < cnt → hs k % cap < j + 1 → FIc cnt (cap * 2) hs k (N2 k)) ∧ ∀ k, k < cnt → j + 1 ≤ hs k % cap → FIc cnt cap hs k (N2 k) := by
  obtain ⟨c1, c2, c3, c4, c5, c6, c7, c8⟩ := c
  have tl : ∀ k, some k = LT ∨ some k = HT → hs k % cap = j ∧ FIc cnt (cap * 2) hs k none := by
    intro k hk
    rcases hk with hk | hk
    · subst hk
      exact ⟨(cs_mod hj).1 c1.2.1, fun a h6 h7 q => c1.2.2 a (by omega) h7 (q.trans c1.2.1)⟩
    · subst hk
      exact ⟨(cs_mod hj).2 c2.2.1, fun a h6 h7 q => c2.2.2 a (by omega) h7 (q.trans c2.2.1)⟩
  refine ⟨fun k h1 h3 => ?_, fun k h1 h3 => ?_⟩
  · by_cases z : some k = LT ∨ some k = HT
    · rw [(h2 k).1 z]
      exact (tl k z).2
    · have z1 : some k ≠ LT := fun q => z (Or.inl q)
      have z2 : some k ≠ HT := fun q => z (Or.inr q)
      rw [(h2 k).2 z1 z2]
      rcases Nat.lt_or_ge (hs k % cap) j with y | y
      · exact c5 k h1 y
      · exact c8 k h1 (by omega) h1 z1 z2
  · have z : ¬ (some k = LT ∨ some k = HT) := fun q => by have := (tl k q).1; omega
    rw [(h2 k).2 (fun q => z (Or.inl q)) (fun q => z (Or.inr q))]
    exact c6 k h1 (by omega)
end CSs
/-- the new table, buckets below j done -/
def TBt (cnt cap j : Nat) (T2 : Nat → Option Nat) (hs ea : Nat → Nat) : Prop := ∃ F2 : Nat → Option Nat, ∀ b, b < cap * 2 → T2 b = (F2 b).map ea ∧ (b % cap < j → FI (fun k => hs k % (cap * 2) = b) 0 cnt (F2 b)) ∧ (j ≤ b % cap → F2 b = none)
theorem TBt.put {cnt cap j : Nat} {T2 : Nat → Option Nat} {hs ea : Nat → Nat} (hcap : 0 < cap) (hj : j < cap) (h : TBt cnt cap j T2 hs ea) {o1 o2 : Option Nat} (h1 : FI (fun k => hs k % (cap * 2) = j) 0 cnt o1) (h2 : FI (fun k => hs k % (cap * 2) = j + cap) 0 cnt o2) {T3 : Nat → Option Nat} (e1 : T3 j = o1.map ea) (e2 : T3 (j + cap) = o2.map ea) (e3 : ∀ b, b ≠ j → b ≠ j + cap → T3 b = T2 b) : TBt cnt cap (j + 1) T3 hs ea := by
  obtain ⟨F2, hF⟩ := h
  refine ⟨va_up (va_up F2 j o1) (j + cap) o2, fun b hb => ?_⟩
  by_cases z2 : b = j + cap
  · subst z2
    rw [va_up_s]
    exact ⟨e2, fun _ => h2, fun q => by rw [Nat.add_mod_right, Nat.mod_eq_of_lt hj] at q; omega⟩
  · rw [va_up_n _ o2 z2]
    by_cases z1 : b = j
    · subst z1
      rw [va_up_s]
      exact ⟨e1, fun _ => h1, fun q => by rw [Nat.mod_eq_of_lt hj] at q; omega⟩
    · rw [va_up_n _ o1 z1, e3 b z1 z2]
      obtain ⟨g1, g2, g3⟩ := hF b hb
      have hbm : b % cap ≠ j := by
        intro q
        have h5 := Nat.div_add_mod b cap
        have h6 : b / cap < 2 := Nat.div_lt_of_lt_mul hb
        have h7 : b / cap = 0 ∨ b / cap = 1 := by
          generalize b / cap = y at h6
          omega
        rcases h7 with y | y
        · rw [y, q] at h5; omega
        · rw [y, q] at h5; omega
      exact ⟨g1, fun q => g2 (by omega), fun q => g3 (by omega)⟩
