/-! THE MAP, in plain: buckets, chains -/
set_option maxRecDepth 100000
/-- the first j with P, lo ≤ j < n -/
def FI (P : Nat → Prop) (lo n : Nat) : Option Nat → Prop
  | none => ∀ j, lo ≤ j → j < n → ¬ P j
  | some i => lo ≤ i ∧ i < n ∧ P i ∧ ∀ j, lo ≤ j → j < i → ¬ P j
/-- the last j < n with P -/
def LA (P : Nat → Prop) (n : Nat) : Option Nat → Prop
  | none => ∀ j, j < n → ¬ P j
  | some i => i < n ∧ P i ∧ ∀ j, i < j → j < n → ¬ P j
theorem FI.congr {P P' : Nat → Prop} {lo n : Nat} {o : Option Nat} (h : FI P lo n o) (e : ∀ j, lo ≤ j → j < n → (P j ↔ P' j)) : FI P' lo n o := by
  cases o with
  | none =>
    exact fun j h1 h2 q => h j h1 h2 ((e j h1 h2).mpr q)
  | some i =>
    exact ⟨h.1, h.2.1, (e i h.1 h.2.1).mp h.2.2.1, fun j h1 h2 q => h.2.2.2 j h1 h2 ((e j h1 (Nat.lt_trans h2 h.2.1)).mpr q)⟩
/-- one more at the end that is not one -/
theorem FI.grow {P : Nat → Prop} {lo n : Nat} {o : Option Nat} (h : FI P lo n o) (hn : ¬ P n) : FI P lo (n + 1) o := by
  cases o with
  | none =>
    exact fun j h1 h2 q => by
      rcases Nat.lt_or_ge j n with z | z
      · exact h j h1 z q
      · have : j = n := by omega
        subst this; exact hn q
  | some i =>
    exact ⟨h.1, Nat.lt_succ_of_lt h.2.1, h.2.2.1, h.2.2.2⟩
/-- one more at the end, and there was none -/
theorem FI.new {P : Nat → Prop} {lo n : Nat} (h : FI P lo n none) (hl : lo ≤ n) (hn : P n) : FI P lo (n + 1) (some n) := ⟨hl, Nat.lt_succ_self n, hn, fun j h1 h2 q => h j h1 h2 q⟩
theorem FI.growS {P : Nat → Prop} {lo n i : Nat} (h : FI P lo n (some i)) : FI P lo (n + 1) (some i) := ⟨h.1, Nat.lt_succ_of_lt h.2.1, h.2.2.1, h.2.2.2⟩
theorem LA.step {P : Nat → Prop} {n m : Nat} {o : Option Nat} (h : LA P n o) (hm : n ≤ m) (e : ∀ j, n ≤ j → j < m → ¬ P j) : LA P m o := by
  cases o with
  | none =>
    exact fun j h1 q => by
      rcases Nat.lt_or_ge j n with z | z
      · exact h j z q
      · exact e j z h1 q
  | some i =>
    exact ⟨Nat.lt_of_lt_of_le h.1 hm, h.2.1, fun j h1 h2 q => by
      rcases Nat.lt_or_ge j n with z | z
      · exact h.2.2 j h1 z q
      · exact e j z h2 q⟩
theorem FI.step {P : Nat → Prop} {lo n m : Nat} {o : Option Nat} (h : FI P lo n o) (hm : n ≤ m) (e : ∀ j, n ≤ j → j < m → ¬ P j) : FI P lo m o := by
  cases o with
  | none =>
    exact fun j h0 h1 q => by
      rcases Nat.lt_or_ge j n with z | z
      · exact h j h0 z q
      · exact e j z h1 q
  | some i =>
    exact ⟨h.1, Nat.lt_of_lt_of_le h.2.1 hm, h.2.2.1, h.2.2.2⟩
/-- the three sizes of a table -/
def hm_cap (cap th : Nat) : Prop := (cap = 16 ∧ th = 12) ∨ (cap = 32 ∧ th = 24) ∨ (cap = 64 ∧ th = 48)
theorem hm_and {cap th h : Nat} (hc : hm_cap cap th) (hh : h < 64) : (nI cap - 1) &&& nI h = nI (h % cap) := by
  have key : ∀ k : Fin 64, (nI 16 - 1) &&& nI k.1 = nI (k.1 % 16) ∧ (nI 32 - 1) &&& nI k.1 = nI (k.1 % 32) ∧ (nI 64 - 1) &&& nI k.1 = nI (k.1 % 64) := by decide +kernel
  obtain ⟨k1, k2, k3⟩ := key ⟨h, hh⟩
  rcases hc with ⟨rfl, -⟩ | ⟨rfl, -⟩ | ⟨rfl, -⟩
  · exact k1
  · exact k2
  · exact k3
theorem hm_and' {cap th h : Nat} (hc : hm_cap cap th) (hh : h < 64) : nI h &&& (nI cap - 1) = nI (h % cap) := by
  rw [Int32.and_comm]; exact hm_and hc hh
theorem hm_bit {cap th h : Nat} (hc : (cap = 16 ∧ th = 12) ∨ (cap = 32 ∧ th = 24)) (hh : h < 64) : (nI h &&& nI cap = 0 → h % (cap * 2) = h % cap) ∧ (¬ nI h &&& nI cap = 0 → h % (cap * 2) = h % cap + cap) := by
  have key : ∀ k : Fin 64, ((nI k.1 &&& nI 16 = 0 → k.1 % (16 * 2) = k.1 % 16) ∧ (¬ nI k.1 &&& nI 16 = 0 → k.1 % (16 * 2) = k.1 % 16 + 16)) ∧ ((nI k.1 &&& nI 32 = 0 → k.1 % (32 * 2) = k.1 % 32) ∧ (¬ nI k.1 &&& nI 32 = 0 → k.1 % (32 * 2) = k.1 % 32 + 32)) := by decide +kernel
  obtain ⟨k1, k2⟩ := key ⟨h, hh⟩
  rcases hc with ⟨rfl, -⟩ | ⟨rfl, -⟩
  · exact k1
  · exact k2
theorem hm_hash {h : Nat} (hh : h < 64) : nI h ^^^ nI 0 = nI h := by
  have key : ∀ k : Fin 64, nI k.1 ^^^ nI 0 = nI k.1 := by decide +kernel
  exact key ⟨h, hh⟩
/-- the map's own cell -/
abbrev hm_o (tb : Option Nat) (n : Nat) (m : Int32) (th : Nat) (vals hd tl : Option Nat) : List Value := [va_rf tb, .null, .int (nI n), .int m, .int (nI th), .float 1061158912, .null, va_rf vals, va_rf hd, va_rf tl, .int 0, .int 0]
def hm_hd (cnt : Nat) (ea : Nat → Nat) : Option Nat := if cnt = 0 then none else some (ea 0)
def hm_tl (cnt : Nat) (ea : Nat → Nat) : Option Nat := if cnt = 0 then none else some (ea (cnt - 1))
def hm_bf (i : Nat) (ea : Nat → Nat) : Option Nat := if i = 0 then none else some (ea (i - 1))
def hm_af (i cnt : Nat) (ea : Nat → Nat) : Option Nat := if i + 1 < cnt then some (ea (i + 1)) else none
/-- an entry's cell -/
abbrev hm_e (h k v : Nat) (nx bf af : Option Nat) : List Value := [.int (nI h), .ref k, .ref v, va_rf nx, va_rf bf, va_rf af]
/-- the map object, cnt entries, the table -/
def LE (G : hp_G) (t x cnt n : Nat) (tb : Option Nat) (cap : Nat) (T : Nat → Option Nat) (m : Int32) (th : Nat) (vals : Option Nat) (N : Nat → Option Nat) (hs ky vl ea : Nat → Nat) (h : hp_H) : Prop :=
  h x = some (t, hp_ob 9 (hm_o tb n m th vals (hm_hd cnt ea) (hm_tl cnt ea))) ∧ (∀ i, i < cnt → h (ea i) = some (t, hp_ob 10 (hm_e (hs i) (ky i) (vl i) ((N i).map ea) (hm_bf i ea) (hm_af i cnt ea)))) ∧ (∀ a, tb = some a → h a = some (t, hp_aq G 4 cap T)) ∧ ∀ i j, i < cnt → j < cnt → ea i = ea j → i = j
section LEs
variable {G : hp_G} {t x cnt n : Nat} {tb : Option Nat} {cap : Nat} {T : Nat → Option Nat} {m : Int32} {th : Nat} {vals : Option Nat} {N : Nat → Option Nat} {hs ky vl ea : Nat → Nat} {h : hp_H}
theorem LE.o (l : LE G t x cnt n tb cap T m th vals N hs ky vl ea h) : h x = some (t, hp_ob 9 (hm_o tb n m th vals (hm_hd cnt ea) (hm_tl cnt ea))) := l.1
theorem LE.e (l : LE G t x cnt n tb cap T m th vals N hs ky vl ea h) : ∀ i, i < cnt → h (ea i) = some (t, hp_ob 10 (hm_e (hs i) (ky i) (vl i) ((N i).map ea) (hm_bf i ea) (hm_af i cnt ea))) := l.2.1
theorem LE.tt (l : LE G t x cnt n tb cap T m th vals N hs ky vl ea h) : ∀ a, tb = some a → h a = some (t, hp_aq G 4 cap T) := l.2.2.1
theorem LE.inj (l : LE G t x cnt n tb cap T m th vals N hs ky vl ea h) : ∀ i j, i < cnt → j < cnt → ea i = ea j → i = j := l.2.2.2
theorem LE.fr {P : Nat → Prop} {h' : hp_H} (l : LE G t x cnt n tb cap T m th vals N hs ky vl ea h) (f : hp_fr P h h') (ht : ¬ P t) : LE G t x cnt n tb cap T m th vals N hs ky vl ea h' := ⟨f _ _ _ l.o ht, fun i hi => f _ _ _ (l.e i hi) ht, fun a ha => f _ _ _ (l.tt a ha) ht, l.inj⟩
theorem LE.fresh {q : Nat} {y : Nat × hp_C} (l : LE G t x cnt n tb cap T m th vals N hs ky vl ea h) (hq : h q = none) : LE G t x cnt n tb cap T m th vals N hs ky vl ea (hp_up h q y) := ⟨hp_up_f l.o hq, fun i hi => hp_up_f (l.e i hi) hq, fun a ha => hp_up_f (l.tt a ha) hq, l.inj⟩
/-- an entry's next -/
theorem LE.next (l : LE G t x cnt n tb cap T m th vals N hs ky vl ea h) {k : Nat} (hk : k < cnt) (o : Option Nat) {L : List Value} (hL : (hm_e (hs k) (ky k) (vl k) ((N k).map ea) (hm_bf k ea) (hm_af k cnt ea)).set 3 (va_rf (o.map ea)) = L) : LE G t x cnt n tb cap T m th vals (va_up N k o) hs ky vl ea (hp_up h (ea k) (t, hp_ob 10 L)) := by
  subst hL
  have hk0 := l.e k hk
  refine ⟨hp_up_o l.o hk0 (fun z => by cases z), fun i hi => ?_, fun a ha => hp_up_o (l.tt a ha) hk0 (fun z => by cases z), l.inj⟩
  by_cases e : i = k
  · subst e
    rw [hp_up_s, show va_up N i o i = o from if_pos rfl]
    rfl
  · rw [hp_up_n (fun z => e (l.inj i k hi hk z)), show va_up N k o i = N i from if_neg e]
    exact l.e i hi
/-- a place of the table -/
theorem LE.tab (l : LE G t x cnt n tb cap T m th vals N hs ky vl ea h) {a : Nat} (ha : tb = some a) (b : Nat) (o : Option Nat) : LE G t x cnt n tb cap (va_up T b o) m th vals N hs ky vl ea (hp_up h a (t, hp_aq G 4 cap (va_up T b o))) := by
  have ha0 := l.tt a ha
  refine ⟨hp_up_o l.o ha0 (fun z => by cases z), fun i hi => hp_up_o (l.e i hi) ha0 (fun z => by cases z), fun a' ha' => ?_, l.inj⟩
  rw [ha] at ha'; cases ha'
  exact hp_up_s _ _ _
/-- the map's own cell -/
theorem LE.own (l : LE G t x cnt n tb cap T m th vals N hs ky vl ea h) {n' : Nat} {m' : Int32} {th' : Nat} {vals' : Option Nat} {L : List Value} (hL : L = hm_o tb n' m' th' vals' (hm_hd cnt ea) (hm_tl cnt ea)) : LE G t x cnt n' tb cap T m' th' vals' N hs ky vl ea (hp_up h x (t, hp_ob 9 L)) := by
  subst hL
  refine ⟨hp_up_s _ _ _, fun i hi => hp_up_o (l.e i hi) l.o (fun z => by cases z), fun a ha => hp_up_o (l.tt a ha) l.o (fun z => by cases z), l.inj⟩
/-- another table -/
theorem LE.retab (l : LE G t x cnt n tb cap T m th vals N hs ky vl ea h) {a cap' : Nat} {T' : Nat → Option Nat} (ha : h a = some (t, hp_aq G 4 cap' T')) {L : List Value} (hL : L = hm_o (some a) n m th vals (hm_hd cnt ea) (hm_tl cnt ea)) : LE G t x cnt n (some a) cap' T' m th vals N hs ky vl ea (hp_up h x (t, hp_ob 9 L)) := by
  subst hL
  refine ⟨hp_up_s _ _ _, fun i hi => hp_up_o (l.e i hi) l.o (fun z => by cases z), fun a' ha' => ?_, l.inj⟩
  cases ha'
  exact hp_up_o ha l.o (fun z => by cases z)
theorem LE.cN {N' : Nat → Option Nat} (l : LE G t x cnt n tb cap T m th vals N hs ky vl ea h) (e : ∀ i, i < cnt → N i = N' i) : LE G t x cnt n tb cap T m th vals N' hs ky vl ea h := ⟨l.o, fun i hi => by rw [← e i hi]; exact l.e i hi, l.tt, l.inj⟩
end LEs
/-- the table and the chains say where each entry lies -/
def HT (n : Nat) (tb : Option Nat) (cap : Nat) (T : Nat → Option Nat) (th : Nat) (N : Nat → Option Nat) (hs ea : Nat → Nat) : Prop :=
  (n = 0 ∧ tb = none ∧ th = 0) ∨ ((∃ a, tb = some a) ∧ hm_cap cap th ∧ n ≤ th ∧ (∃ F : Nat → Option Nat, ∀ b, b < cap → T b = (F b).map ea ∧ FI (fun j => hs j % cap = b) 0 n (F b)) ∧ ∀ i, i < n → FI (fun j => hs j % cap = hs i % cap) (i + 1) n (N i))
/-- a map with n entries -/
def LM (G : hp_G) (t x n : Nat) (vals : Option Nat) (hs ky vl ea : Nat → Nat) (h : hp_H) : Prop := ∃ (tb : Option Nat) (cap : Nat) (T : Nat → Option Nat) (m : Int32) (th : Nat) (N : Nat → Option Nat), LE G t x n n tb cap T m th vals N hs ky vl ea h ∧ HT n tb cap T th N hs ea
theorem LM.fr {G : hp_G} {t x n : Nat} {vals : Option Nat} {hs ky vl ea : Nat → Nat} {h h' : hp_H} {P : Nat → Prop} (l : LM G t x n vals hs ky vl ea h) (f : hp_fr P h h') (ht : ¬ P t) : LM G t x n vals hs ky vl ea h' := by
  obtain ⟨tb, cap, T, m, th, N, l, r⟩ := l
  exact ⟨tb, cap, T, m, th, N, l.fr f ht, r⟩
theorem LM.o {G : hp_G} {t x n : Nat} {vals : Option Nat} {hs ky vl ea : Nat → Nat} {h : hp_H} (l : LM G t x n vals hs ky vl ea h) : ∃ fs, h x = some (t, hp_ob 9 fs) := by
  obtain ⟨tb, cap, T, m, th, N, l, r⟩ := l
  exact ⟨_, l.o⟩
