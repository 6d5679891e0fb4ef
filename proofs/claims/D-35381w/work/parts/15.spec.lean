/-! THE REFERENCE's public methods as functions on its state -/
set_option maxRecDepth 100000
theorem isb_t {a b v : Int32} (h : ¬ isb a b v = 0) : ¬ v < a ∧ ¬ b < v := by
  unfold isb at h
  split at h
  · exact absurd rfl h
  · split at h
    · exact absurd rfl h
    · exact ⟨by assumption, by assumption⟩
theorem isb_px {v m : Int32} {n : Nat} (hm : m = nI n) (hn : n < 1000000) (h : ¬ isb 0 (m - 1) v = 0) : pxn v n := by
  obtain ⟨h1, h2⟩ := isb_t h
  obtain ⟨j, hj, rfl⟩ := nI_of h1
  subst hm
  have hlt : j < n := by
    cases n with
    | zero => exact absurd (show nI 0 - 1 < nI j by rw [Int32.lt_iff_toInt_lt, nI_toInt hj, show (nI 0 - 1).toInt = -1 by decide]; omega) h2
    | succ n =>
      rw [show nI (n + 1) - 1 = nI n from nI_pred n, Int32.lt_iff_toInt_lt, nI_toInt hj, nI_toInt (by omega)] at h2
      omega
  exact pxn_nI hlt (by omega)
theorem px_isb {v m : Int32} {n : Nat} (hm : m = nI n) (hn : n < 1000000) (h : pxn v n) : ¬ isb 0 (m - 1) v = 0 := by
  obtain ⟨h1, h2⟩ := h
  generalize ix v = j at h1 h2
  subst h1
  subst hm
  cases n with
  | zero => exact absurd h2 (Nat.not_lt_zero _)
  | succ n =>
    unfold isb
    rw [if_neg (nI_pos (by omega)), show nI (n + 1) - 1 = nI n from nI_pred n, if_neg (nI_nlt (by omega) (by omega))]
    decide
theorem isb_p3 {v : Int32} (h : ¬ isb 0 3 v = 0) : pxn v 4 := isb_px (m := 4) (n := 4) rfl (by decide) h
theorem bz0 {p : Prop} [Decidable p] (h : bz p = 0) : ¬ p := fun q => by rw [bz_t q] at h; exact absurd h (by decide)
theorem bz1 {p : Prop} [Decidable p] (h : ¬ bz p = 0) : p := Decidable.byContradiction fun q => h (bz_f q)
/-- which exception: none or one of three -/
def tk3 (a b c : Prop) [Decidable a] [Decidable b] [Decidable c] : Int32 := if a then 1 else if b then 2 else if c then 3 else 0
theorem tk3_0 {a b c : Prop} [Decidable a] [Decidable b] [Decidable c] {k : Int32} (hk : k = tk3 a b c) (h : bz (0 < k) = 0) : k = 0 := by
  subst hk
  unfold tk3 at h ⊢
  split
  · rename_i q; rw [if_pos q] at h; exact absurd h (by decide)
  · rename_i q; rw [if_neg q] at h
    split
    · rename_i q; rw [if_pos q] at h; exact absurd h (by decide)
    · rename_i q; rw [if_neg q] at h
      split
      · rename_i q; rw [if_pos q] at h; exact absurd h (by decide)
      · rfl
theorem tk3_n {a b c : Prop} [Decidable a] [Decidable b] [Decidable c] {k : Int32} (hk : k = tk3 a b c) (h : ¬ bz (0 < k) = 0) : ¬ tk3 a b c = 0 := fun q => h (by rw [hk, q]; decide)
theorem tk3_z {a b c : Prop} [Decidable a] [Decidable b] [Decidable c] (h : tk3 a b c = 0) : ¬ a ∧ ¬ b ∧ ¬ c := by
  unfold tk3 at h
  split at h
  · exact absurd h (by decide)
  · split at h
    · exact absurd h (by decide)
    · split at h
      · exact absurd h (by decide)
      · exact ⟨by assumption, by assumption, by assumption⟩
theorem tk3_1 {a b c : Prop} [Decidable a] [Decidable b] [Decidable c] (h : a) : 1 = tk3 a b c := (if_pos h).symm
theorem tk3_2 {a b c : Prop} [Decidable a] [Decidable b] [Decidable c] (h : ¬ a) (h2 : b) : 2 = tk3 a b c := ((if_neg h).trans (if_pos h2)).symm
theorem tk3_3 {a b c : Prop} [Decidable a] [Decidable b] [Decidable c] (h : ¬ a) (h2 : ¬ b) (h3 : c) : 3 = tk3 a b c := ((if_neg h).trans ((if_neg h2).trans (if_pos h3))).symm
theorem tk3_4 {a b c : Prop} [Decidable a] [Decidable b] [Decidable c] (h : ¬ a) (h2 : ¬ b) (h3 : ¬ c) : 0 = tk3 a b c := ((if_neg h).trans ((if_neg h2).trans (if_neg h3))).symm
/-- nothing thrown -/
abbrev t9 (T : tw_T) : tw_T := tw_s T 29 0
abbrev tPl (T : tw_T) (p : Int32) : Prop := ¬ isb 0 (T.1 1 - 1) p = 0
abbrev tSk (T : tw_T) (k : Int32) : Prop := ¬ isb 0 (T.1 13 - 1) k = 0
abbrev tBan (T : tw_T) (p : Int32) : Prop := T.1 0 < T.2 3 (ix p)
/-! player -/
abbrev tk_player (T : tw_T) : Int32 := tk3 (T.1 1 = 16) False False
def tu_player (T : tw_T) (np : Nat) : tw_T := tw_s (tw_a T 2 np (-1)) 1 (T.1 1 + 1)
/-! room -/
abbrev tk_room (r n : Int32) : Int32 := tk3 (isb 0 3 r = 0) (isb 0 50 n = 0) False
def tu_room (T : tw_T) (r n : Int32) : tw_T := tw_a T 5 (ix r) n
/-! match -/
abbrev tIs_match (T : tw_T) (a b r : Int32) : Prop := tPl T a ∧ tPl T b ∧ ¬ isb 0 3 r = 0
abbrev tCan_match (T : tw_T) (nm : Nat) (a b r : Int32) : Prop := T.1 6 < 100 ∧ bz (tBan T a) = 0 ∧ bz (tBan T b) = 0 ∧ tw_td T r nm < T.2 5 (ix r)
abbrev tk_match (T : tw_T) (nm : Nat) (a b r : Int32) : Int32 := tk3 (¬ tIs_match T a b r) (a = b) (¬ tCan_match T nm a b r)
def tu_match (T : tw_T) (nm : Nat) (a b r : Int32) : tw_T := tw_s (tw_a (tw_a (tw_a (tw_a (tw_a T 7 nm a) 8 nm b) 9 nm r) 10 nm (T.1 0)) 11 nm (T.1 12)) 6 (T.1 6 + 1)
/-! end -/
abbrev tk_end (T : tw_T) : Int32 := tk3 (T.1 12 = 11) False False
def te_a (T : tw_T) (k : Nat) (pl its : Int32) : tw_T := tw_s (tw_a (tw_a (tw_a (tw_a (tw_a (tw_a (tw_a T 14 k (T.1 12)) 15 k pl) 16 k its) 17 k its) 18 k (-1)) 20 k (-1)) 21 k 0) 13 (T.1 13 + 1)
def te_1 (T : tw_T) (np : Nat) (pl : Int32) : tw_T := if tw_who T np pl = -1 then T else te_a T (ix (T.1 13)) pl (tw_who T np pl)
def te_l (T : tw_T) (np : Nat) : Nat → tw_T
  | 0 => T
  | j + 1 => te_1 (te_l T np j) np (nI (j + 1))
def te_n (T : tw_T) (np : Nat) : Nat → Int32
  | 0 => 0
  | j + 1 => if tw_who (te_l T np j) np (nI (j + 1)) = -1 then te_n T np j else te_n T np j + 1
def tu_end (T : tw_T) (np nm : Nat) : tw_T := tw_s (te_l (tw_cn T (T.1 12) np nm) np 3) 12 ((te_l (tw_cn T (T.1 12) np nm) np 3).1 12 + 1)
def tv_end (T : tw_T) (np nm : Nat) : Int32 := te_n (tw_cn T (T.1 12) np nm) np 3
/-! sell, lend -/
abbrev tIs_skin (T : tw_T) (k p : Int32) : Prop := tSk T k ∧ tPl T p
abbrev tFree (T : tw_T) (k p : Int32) : Prop := ¬ T.2 17 (ix k) = -1 ∧ ¬ T.2 17 (ix k) = p ∧ bz (tBan T (T.2 17 (ix k))) = 0 ∧ bz (tBan T p) = 0
abbrev tk_sell (T : tw_T) (k p n : Int32) : Int32 := tk3 (¬ tIs_skin T k p) (isb 0 10000 n = 0) (¬ (tFree T k p ∧ T.2 21 (ix k) < 20))
def tv_sell (T : tw_T) (k p : Int32) : Int32 := bz (T.2 2 (ix (T.2 17 (ix k))) = -1 ∧ T.2 2 (ix p) = -1)
def ts_1 (T : tw_T) (k p n : Int32) : tw_T := tw_a (tw_a (tw_a T 22 (20 * ix k + ix (T.2 21 (ix k))) (T.2 17 (ix k))) 23 (20 * ix k + ix (T.2 21 (ix k))) p) 24 (20 * ix k + ix (T.2 21 (ix k))) n
def ts_2 (T : tw_T) (k f : Int32) : tw_T := tw_a T 20 (ix k) (if ¬ f = 0 ∧ T.2 20 (ix k) = -1 then T.2 21 (ix k) else T.2 20 (ix k))
def ts_3 (T : tw_T) (k p n : Int32) : tw_T := tw_a (tw_a (tw_in (tw_in (tw_in T 21 (ix k) 1) 4 (ix (T.2 17 (ix k))) n) 4 (ix p) (-n)) 17 (ix k) p) 18 (ix k) (-1)
def tu_sell (T : tw_T) (k p n : Int32) : tw_T := ts_3 (ts_2 (ts_1 T k p n) k (tv_sell T k p)) k p n
abbrev tk_lend (T : tw_T) (k p n : Int32) : Int32 := tk3 (¬ tIs_skin T k p) (isb 1 100 n = 0) (¬ tFree T k p)
def tu_lend (T : tw_T) (k p n : Int32) : tw_T := tw_a (tw_a T 18 (ix k) p) 19 (ix k) (T.1 0 + n - 1)
/-! proofs -/
def tp_pay (T : tw_T) (f t n : Int32) : tw_T := if f = -1 then T else if t = -1 then T else tw_in (tw_a T 4 (ix f) (T.2 4 (ix f) - n)) 4 (ix t) n
def ti_u (b : Nat) : Nat → tw_T → tw_T
  | 0, T => T
  | c + 1, T => ti_u b c (tp_pay T (T.2 22 (b + c)) (T.2 23 (b + c)) (T.2 24 (b + c)))
def ti_g (T : tw_T) (k : Nat) (its : Int32) : tw_T := tw_a (tw_a (tw_a T 21 k 0) 17 k its) 18 k (-1)
def tu_inh (T : tw_T) (k : Nat) (its : Int32) : tw_T := tw_a (if T.2 20 k = -1 then ti_g (ti_u (20 * k) (ix (T.2 21 k)) T) k its else tp_pay T (T.2 16 k) its (T.2 24 (20 * k + ix (T.2 20 k)))) 16 k its
def tl_1 (T : tw_T) (np k : Nat) : tw_T := if tw_who T np (T.2 15 k) = T.2 16 k then T else tu_inh T k (tw_who T np (T.2 15 k))
def tl_l (T : tw_T) (np nm : Nat) : Nat → tw_T
  | 0 => T
  | k + 1 => tl_1 (tw_cn (tl_l T np nm k) ((tl_l T np nm k).2 14 k) np nm) np k
abbrev tk_proof (T : tw_T) (p f : Int32) : Int32 := tk3 (isb 0 (T.1 1 - 1) p = 0) (isb 0 (T.1 0) f = 0) False
def tu_since (T : tw_T) (p f : Int32) : tw_T := tw_a T 2 (ix p) (if T.2 2 (ix p) = -1 ∨ f < T.2 2 (ix p) then f else T.2 2 (ix p))
def tu_proof (T : tw_T) (np nm ns : Nat) (p f : Int32) : tw_T := tl_l (tu_since T p f) np nm ns
def tb_n (T : tw_T) : Nat → Int32
  | 0 => 0
  | j + 1 => tb_n T j + bz (tw_gd T j = 0)
abbrev tk_clear (T : tw_T) (p : Int32) : Int32 := tk3 (isb 0 (T.1 1 - 1) p = 0) (T.2 2 (ix p) = -1) False
def tu_clear (T : tw_T) (np nm ns : Nat) (p : Int32) : tw_T := tl_l (tw_a T 2 (ix p) (-1)) np nm ns
abbrev tk_ban (T : tw_T) (p n : Int32) : Int32 := tk3 (isb 0 (T.1 1 - 1) p = 0) (isb 0 1000 n = 0) False
def tu_ban (T : tw_T) (p n : Int32) : tw_T := tw_a T 3 (ix p) (T.1 0 + n)
abbrev tk_pass (n : Int32) : Int32 := tk3 (isb 1 400 n = 0) False False
def tu_pass (T : tw_T) (n : Int32) : tw_T := tw_s T 0 (T.1 0 + n)
/-! asking -/
abbrev tk_stands (T : tw_T) (j : Int32) : Int32 := tk3 (isb 0 (T.1 6 - 1) j = 0) False False
abbrev tk_ranked (T : tw_T) (s p w : Int32) : Int32 := tk3 (¬ (¬ isb 0 (T.1 12) s = 0 ∧ tPl T p)) (isb 0 2 w = 0) False
def tv_ranked (T : tw_T) (np nm : Nat) (s p w : Int32) : Int32 := if w = 0 then (tw_cn T s np nm).2 25 (ix p) else if w = 1 then (tw_cn T s np nm).2 26 (ix p) else tw_pl (tw_cn T s np nm) np (ix p)
abbrev tk_skinOf (T : tw_T) (k w : Int32) : Int32 := tk3 (isb 0 (T.1 13 - 1) k = 0) (isb 0 6 w = 0) False
def tv_user (T : tw_T) (k : Nat) : Int32 := if ¬ T.2 17 k = -1 ∧ ¬ T.2 18 k = -1 ∧ T.1 0 ≤ T.2 19 k then T.2 18 k else T.2 17 k
def tv_skinOf (T : tw_T) (k : Nat) (w : Int32) : Int32 := if w = 0 then T.2 17 k else if w = 1 then T.2 16 k else if w = 2 then tv_user T k else if w = 3 then T.2 14 k else if w = 4 then T.2 15 k else if w = 5 then T.2 21 k else bz (¬ T.2 20 k = -1)
abbrev tk_money (T : tw_T) (p : Int32) : Int32 := tk3 (isb 0 (T.1 1 - 1) p = 0) False False
/-! label: what is written -/
def tx_put (T : tw_T) (c : Int32) : tw_T := tw_s (tw_a T 27 (ix (T.1 28)) c) 28 (T.1 28 + 1)
def tx_num (T : tw_T) (v : Int32) : tw_T := tx_put (if v ≤ 9 then T else tx_put T (48 + v / 10)) (48 + (v - v / 10 * 10))
abbrev tk_label (T : tw_T) (k pl : Int32) : Int32 := tk3 (isb 0 (T.1 13 - 1) k = 0 ∨ pl < 0) False False
def tx_all (T : tw_T) (k : Int32) : tw_T :=
  tx_num (tx_put (tx_num (tx_put (tx_num (tw_s T 28 0) k) 58) (T.2 14 (ix k))) 47) (T.2 15 (ix k))
def tx_hold (T U : tw_T) (k : Int32) : tw_T := if T.2 17 (ix k) = -1 then U else tx_num (tx_put U 64) (T.2 17 (ix k))
def tv_label (T : tw_T) (k pl : Int32) : Int32 := if (tx_hold T (tx_all T k) k).1 28 ≤ pl then 0 else (((tx_hold T (tx_all T k) k).2 27 (ix pl)).toUInt32 % 65536).toInt32
/-! what holds on, of the state -/
theorem tw_who_px (T : tw_T) (np : Nat) (hnp : np ≤ 16) (pl : Int32) : tw_who T np pl = -1 ∨ pxn (tw_who T np pl) np := by
  unfold tw_who
  have h : ∀ n, n ≤ np → tw_w1 T np pl n = -1 ∨ pxn (tw_w1 T np pl n) np := by
    intro n
    induction n with
    | zero => intro _; exact Or.inl rfl
    | succ n ih =>
      intro hn
      rw [tw_w1]
      split
      · exact Or.inr (pxn_nI (by omega) (by omega))
      · exact ih (by omega)
  exact h np (Nat.le_refl _)
theorem tp_pay_o (T : tw_T) (f t n : Int32) : (tp_pay T f t n).1 = T.1 ∧ ∀ k, k ≠ 4 → (tp_pay T f t n).2 k = T.2 k := by
  unfold tp_pay
  split
  · exact ⟨rfl, fun _ _ => rfl⟩
  · split
    · exact ⟨rfl, fun _ _ => rfl⟩
    · exact ⟨rfl, fun k hk => (if_neg hk).trans (if_neg hk)⟩
theorem ti_u_o (b : Nat) : ∀ (c : Nat) (T : tw_T), (ti_u b c T).1 = T.1 ∧ ∀ k, k ≠ 4 → (ti_u b c T).2 k = T.2 k
  | 0, T => ⟨rfl, fun _ _ => rfl⟩
  | c + 1, T => by
    obtain ⟨h1, h2⟩ := ti_u_o b c (tp_pay T (T.2 22 (b + c)) (T.2 23 (b + c)) (T.2 24 (b + c)))
    obtain ⟨g1, g2⟩ := tp_pay_o T (T.2 22 (b + c)) (T.2 23 (b + c)) (T.2 24 (b + c))
    exact ⟨h1.trans g1, fun k hk => (h2 k hk).trans (g2 k hk)⟩
theorem upd_s (f : Nat → Int32) (k : Nat) (v : Int32) : upd f k v k = v := if_pos rfl
theorem upd_n (f : Nat → Int32) {k j : Nat} (v : Int32) (h : j ≠ k) : upd f k v j = f j := if_neg h
theorem tw_ok.inh {T : tw_T} {np nm se ns k : Nat} {its : Int32} (ok : tw_ok T np nm se ns) (hi : its = -1 ∨ pxn its np) : tw_ok (tu_inh T k its) np nm se ns := by
  obtain ⟨o1, o2, o3, o4, o5, o6, o7, o8, om, ok2, ol⟩ := ok
  by_cases hf : T.2 20 k = -1
  · obtain ⟨u1, u2⟩ := ti_u_o (20 * k) (ix (T.2 21 k)) T
    have e1 : (tu_inh T k its).1 = T.1 := by unfold tu_inh; rw [if_pos hf]; exact u1
    have e2 : ∀ j, j ≠ 4 → j ≠ 16 → j ≠ 17 → j ≠ 18 → j ≠ 21 → (tu_inh T k its).2 j = T.2 j := by
      intro j h4 h16 h17 h18 h21
      unfold tu_inh
      rw [if_pos hf]
      exact (if_neg h16).trans ((if_neg h18).trans ((if_neg h17).trans ((if_neg h21).trans (u2 j h4))))
    have e16 : (tu_inh T k its).2 16 = upd (T.2 16) k its := by unfold tu_inh; rw [if_pos hf]; show upd (((ti_u _ _ T)).2 16) k its = _; rw [u2 16 (by decide)]
    have e17 : (tu_inh T k its).2 17 = upd (T.2 17) k its := by unfold tu_inh; rw [if_pos hf]; show upd (((ti_u _ _ T)).2 17) k its = _; rw [u2 17 (by decide)]
    have e18 : (tu_inh T k its).2 18 = upd (T.2 18) k (-1) := by unfold tu_inh; rw [if_pos hf]; show upd (((ti_u _ _ T)).2 18) k (-1) = _; rw [u2 18 (by decide)]
    have e21 : (tu_inh T k its).2 21 = upd (T.2 21) k 0 := by unfold tu_inh; rw [if_pos hf]; show upd (((ti_u _ _ T)).2 21) k 0 = _; rw [u2 21 (by decide)]
    refine ⟨by rw [e1]; exact o1, o2, by rw [e1]; exact o3, o4, by rw [e1]; exact o5, o6, by rw [e1]; exact o7, o8, ?_, ?_, ?_⟩
    · rw [e2 7 (by decide) (by decide) (by decide) (by decide) (by decide), e2 8 (by decide) (by decide) (by decide) (by decide) (by decide)]; exact om
    · intro j hj
      obtain ⟨a1, a2, a3, a4, a5, a6, c, a7, a8, a9, a10⟩ := ok2 j hj
      rw [e2 14 (by decide) (by decide) (by decide) (by decide) (by decide), e2 15 (by decide) (by decide) (by decide) (by decide) (by decide), e2 20 (by decide) (by decide) (by decide) (by decide) (by decide), e2 22 (by decide) (by decide) (by decide) (by decide) (by decide), e2 23 (by decide) (by decide) (by decide) (by decide) (by decide), e16, e17, e18, e21]
      by_cases hjk : j = k
      · subst hjk
        simp only [upd_s]
        exact ⟨a1, a2, hi, hi, Or.inl trivial, fun _ => trivial, 0, rfl, by omega, Or.inl hf, fun i h => absurd h (Nat.not_lt_zero _)⟩
      · simp only [upd_n _ _ hjk]
        exact ⟨a1, a2, a3, a4, a5, a6, c, a7, a8, a9, a10⟩
    · rw [e2 14 (by decide) (by decide) (by decide) (by decide) (by decide), e2 15 (by decide) (by decide) (by decide) (by decide) (by decide)]; exact ol
  · obtain ⟨u1, u2⟩ := tp_pay_o T (T.2 16 k) its (T.2 24 (20 * k + ix (T.2 20 k)))
    have e1 : (tu_inh T k its).1 = T.1 := by unfold tu_inh; rw [if_neg hf]; exact u1
    have e2 : ∀ j, j ≠ 4 → j ≠ 16 → (tu_inh T k its).2 j = T.2 j := by
      intro j h4 h16
      unfold tu_inh
      rw [if_neg hf]
      exact (if_neg h16).trans (u2 j h4)
    have e16 : (tu_inh T k its).2 16 = upd (T.2 16) k its := by unfold tu_inh; rw [if_neg hf]; show upd ((tp_pay _ _ _ _).2 16) k its = _; rw [u2 16 (by decide)]
    refine ⟨by rw [e1]; exact o1, o2, by rw [e1]; exact o3, o4, by rw [e1]; exact o5, o6, by rw [e1]; exact o7, o8, ?_, ?_, ?_⟩
    · rw [e2 7 (by decide) (by decide), e2 8 (by decide) (by decide)]; exact om
    · intro j hj
      obtain ⟨a1, a2, a3, a4, a5, a6, a7⟩ := ok2 j hj
      rw [e2 14 (by decide) (by decide), e2 15 (by decide) (by decide), e2 17 (by decide) (by decide), e2 18 (by decide) (by decide), e2 20 (by decide) (by decide), e2 21 (by decide) (by decide), e2 22 (by decide) (by decide), e2 23 (by decide) (by decide), e16]
      by_cases hjk : j = k
      · subst hjk
        rw [upd_s]
        exact ⟨a1, a2, hi, a4, a5, a6, a7⟩
      · rw [upd_n _ _ hjk]
        exact ⟨a1, a2, a3, a4, a5, a6, a7⟩
    · rw [e2 14 (by decide) (by decide), e2 15 (by decide) (by decide)]; exact ol
theorem tw_ok.l1 {T : tw_T} {np nm se ns : Nat} (ok : tw_ok T np nm se ns) (k : Nat) : tw_ok (tl_1 T np k) np nm se ns := by
  unfold tl_1
  split
  · exact ok
  · exact ok.inh (tw_who_px T np ok.2.1 _)
theorem tw_ok.ll {T : tw_T} {np nm se ns : Nat} (ok : tw_ok T np nm se ns) : ∀ k, tw_ok (tl_l T np nm k) np nm se ns
  | 0 => ok
  | k + 1 => ((tw_ok.ll ok k).sm (tw_cn_sm _ _ _ _)).l1 k
/-- a public method's end: K which exception (0: none), V the answer, U the state -/
def tw_api (G : hp_G) (x : Nat) (ad : Nat → Nat) (h : hp_H) (T : tw_T) (K V : Int32) (U : tw_T) : Value → hp_H → Prop := fun r h' => ∃ (z : Int32) (T' : tw_T), r = .int z ∧ TWf G x ad h T' h' ∧ T'.1 29 = K ∧ (K = 0 → z = V ∧ tw_sm U T') ∧ (K ≠ 0 → tw_sm T T')
theorem tw_no {G : hp_G} {x : Nat} {ad : Nat → Nat} {h h' : hp_H} {T U : tw_T} {K V k z : Int32} (tw : TWf G x ad h (tw_s T 29 k) h') (hk : k = K) (h0 : ¬ K = 0) : hp_E (tw_api G x ad h T K V U) (some (.int z)) h' :=
  ⟨_, rfl, z, _, rfl, tw, hk, fun q => absurd q h0, fun _ => (tw_sm.rf T).s 29 _ (Or.inr rfl)⟩
theorem tw_yes {G : hp_G} {x : Nat} {ad : Nat → Nat} {h h' : hp_H} {T T' U : tw_T} {K V z : Int32} (tw : TWf G x ad h T' h') (hK : K = 0) (h9 : T'.1 29 = 0) (hz : z = V) (hU : tw_sm U T') : hp_E (tw_api G x ad h T K V U) (some (.int z)) h' :=
  ⟨_, rfl, z, _, rfl, tw, h9.trans hK.symm, fun _ => ⟨hz, hU⟩, fun q => absurd hK q⟩
theorem tw_td_eq {T U : tw_T} (h9 : U.2 9 = T.2 9) (h10 : U.2 10 = T.2 10) (h0 : U.1 0 = T.1 0) (r : Int32) : ∀ n, tw_td U r n = tw_td T r n
  | 0 => rfl
  | n + 1 => by rw [tw_td, tw_td, tw_td_eq h9 h10 h0 r n, h9, h10, h0]
