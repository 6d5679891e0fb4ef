/-! THE REFERENCE's WORLD: one object (field numbers of TX3), its arrays; T.1 k: the number in field k, T.2 k: what the array in field k holds -/
set_option maxRecDepth 100000
abbrev tw_T : Type := (Nat → Int32) × (Nat → Nat → Int32)
def tw_s (T : tw_T) (k : Nat) (v : Int32) : tw_T := (va_up T.1 k v, T.2)
def tw_a (T : tw_T) (k j : Nat) (v : Int32) : tw_T := (T.1, va_up T.2 k (upd (T.2 k) j v))
def tw_len : Nat → Nat
  | 5 => 4 | 7 => 100 | 8 => 100 | 9 => 100 | 10 => 100 | 11 => 100
  | 14 => 36 | 15 => 36 | 16 => 36 | 17 => 36 | 18 => 36 | 19 => 36 | 20 => 36 | 21 => 36
  | 22 => 720 | 23 => 720 | 24 => 720
  | _ => 16
def tw_arr : Nat → Bool
  | 0 => false | 1 => false | 6 => false | 12 => false | 13 => false
  | k => decide (k < 28)
def tw_fs (T : tw_T) (ad : Nat → Nat) : List Value := [.int (T.1 0), .int (T.1 1), .ref (ad 2), .ref (ad 3), .ref (ad 4), .ref (ad 5), .int (T.1 6), .ref (ad 7), .ref (ad 8), .ref (ad 9), .ref (ad 10), .ref (ad 11), .int (T.1 12), .int (T.1 13), .ref (ad 14), .ref (ad 15), .ref (ad 16), .ref (ad 17), .ref (ad 18), .ref (ad 19), .ref (ad 20), .ref (ad 21), .ref (ad 22), .ref (ad 23), .ref (ad 24), .ref (ad 25), .ref (ad 26), .ref (ad 27), .int (T.1 28), .int (T.1 29)]
def TW (G : hp_G) (x : Nat) (ad : Nat → Nat) (T : tw_T) (h : hp_H) : Prop := h x = some (1, hp_ob 2 (tw_fs T ad)) ∧ (∀ k, tw_arr k = true → h (ad k) = some (1, hp_ai G (tw_len k) (T.2 k))) ∧ (∀ i j, tw_arr i = true → tw_arr j = true → ad i = ad j → i = j)
/-- .. and since h0 no cell of another tag has changed -/
def TWf (G : hp_G) (x : Nat) (ad : Nat → Nat) (h0 : hp_H) (T : tw_T) (h : hp_H) : Prop := TW G x ad T h ∧ hp_fr (fun t => t = 1) h0 h
theorem TW.f {G : hp_G} {x : Nat} {ad : Nat → Nat} {T : tw_T} {h : hp_H} (t : TW G x ad T h) : TWf G x ad h T h := ⟨t, hp_fr.rf _ _⟩
theorem TWf.tr {G : hp_G} {x : Nat} {ad : Nat → Nat} {h0 h h1 : hp_H} {T T1 : tw_T} (t : TWf G x ad h0 T h) (t1 : TWf G x ad h T1 h1) : TWf G x ad h0 T1 h1 := ⟨t1.1, t.2.tr t1.2⟩
theorem TWf.o {G : hp_G} {x : Nat} {ad : Nat → Nat} {h0 h : hp_H} {T : tw_T} (t : TWf G x ad h0 T h) : h x = some (1, hp_ob 2 (tw_fs T ad)) := t.1.1
theorem TWf.ar {G : hp_G} {x : Nat} {ad : Nat → Nat} {h0 h : hp_H} {T : tw_T} (t : TWf G x ad h0 T h) (k : Nat) {n : Nat} (hk : tw_arr k = true) (hn : tw_len k = n) : h (ad k) = some (1, hp_ai G n (T.2 k)) := by rw [← hn]; exact t.1.2.1 k hk
theorem TW.sets {G : hp_G} {x : Nat} {ad : Nat → Nat} {T : tw_T} {h : hp_H} (t : TW G x ad T h) (k : Nat) (v : Int32) (hf : (tw_fs T ad).set k (.int v) = tw_fs (tw_s T k v) ad) : TW G x ad (tw_s T k v) (hp_up h x (1, hp_ob 2 ((tw_fs T ad).set k (.int v)))) := by
  refine ⟨by rw [hp_up_s, hf], fun j hj => ?_, t.2.2⟩
  exact hp_up_o (t.2.1 j hj) t.1 (fun e => by cases e)
theorem TW.seta {G : hp_G} {x : Nat} {ad : Nat → Nat} {T : tw_T} {h : hp_H} (t : TW G x ad T h) (k : Nat) {n : Nat} (hk : tw_arr k = true) (hn : tw_len k = n) (j : Nat) (v : Int32) : TW G x ad (tw_a T k j v) (hp_up h (ad k) (1, hp_ai G n (upd (T.2 k) j v))) := by
  have hx : x ≠ ad k := hp_ne t.1 (t.2.1 k hk) (fun e => by cases e)
  refine ⟨(hp_up_n hx).trans t.1, fun i hi => ?_, t.2.2⟩
  by_cases e : i = k
  · subst e
    rw [hp_up_s, ← hn]
    show some (1, hp_ai G (tw_len i) (upd (T.2 i) j v)) = some (1, hp_ai G (tw_len i) (va_up T.2 i (upd (T.2 i) j v) i))
    rw [show va_up T.2 i (upd (T.2 i) j v) i = upd (T.2 i) j v from if_pos rfl]
  · rw [hp_up_n (fun z => e (t.2.2 i k hi hk z)), t.2.1 i hi]
    show _ = some (1, hp_ai G (tw_len i) (va_up T.2 k (upd (T.2 k) j v) i))
    rw [show va_up T.2 k (upd (T.2 k) j v) i = T.2 i from if_neg e]
theorem tw_fs_0 (T : tw_T) (ad : Nat → Nat) (v : Int32) : (tw_fs T ad).set 0 (.int v) = tw_fs (tw_s T 0 v) ad := rfl
theorem tw_fs_1 (T : tw_T) (ad : Nat → Nat) (v : Int32) : (tw_fs T ad).set 1 (.int v) = tw_fs (tw_s T 1 v) ad := rfl
theorem tw_fs_6 (T : tw_T) (ad : Nat → Nat) (v : Int32) : (tw_fs T ad).set 6 (.int v) = tw_fs (tw_s T 6 v) ad := rfl
theorem tw_fs_12 (T : tw_T) (ad : Nat → Nat) (v : Int32) : (tw_fs T ad).set 12 (.int v) = tw_fs (tw_s T 12 v) ad := rfl
theorem tw_fs_13 (T : tw_T) (ad : Nat → Nat) (v : Int32) : (tw_fs T ad).set 13 (.int v) = tw_fs (tw_s T 13 v) ad := rfl
theorem tw_fs_28 (T : tw_T) (ad : Nat → Nat) (v : Int32) : (tw_fs T ad).set 28 (.int v) = tw_fs (tw_s T 28 v) ad := rfl
theorem tw_fs_29 (T : tw_T) (ad : Nat → Nat) (v : Int32) : (tw_fs T ad).set 29 (.int v) = tw_fs (tw_s T 29 v) ad := rfl
section TWR
variable {p : Program} {l : Launch} {e : Env} {R : Room} {s : State} {m : MethodId} {args : Array Value} {below : List Frame} {meth : Method} {c : Code} {H : Heap} {locs : List Loc} {cells slots : Nat} {Q : State → Prop}
variable {cc : ByteArray} {nL pc : Nat} {ls : Array Slot} {rest st : List Value} {own : String} {G : hp_G} {B : Nat} {h h0 : hp_H} {T : tw_T} {x : Nat} {ad : Nat → Nat}
theorem ro_ialdE (X : CallFix p m c cc nL s args lw_all own) (w : hp_Ws G B h s H locs) (hdg : decode cc pc = .ok (.iaload, 1)) {a t n j : Nat} {f : Nat → Int32} {i : Int32} (ha : h a = some (t, hp_ai G n f)) (hi : i = nI j) (hj : j < n) (hn : n < 2147483648)
    (kk : W p l e R s m args below meth c H locs cells slots Q (F0 m (pc + 1) ls (.int (f j) :: rest))) : W p l e R s m args below meth c H locs cells slots Q (F0 m pc ls (.int i :: .ref a :: rest)) := by
  subst hi
  refine ro_iald X w hdg ha (vp_in_nI hj (by omega)) ?_
  rw [nI_clamp (by omega)]
  exact kk
theorem ro_iastE (X : CallFix p m c cc nL s args lw_all own) (w : hp_Ws G B h s H locs) (hdg : decode cc pc = .ok (.iastore, 1)) {a t n j : Nat} {f : Nat → Int32} {i v : Int32} (ha : h a = some (t, hp_ai G n f)) (ht : t ≠ 0) (hi : i = nI j) (hj : j < n) (hn : n < 2147483648)
    (kk : ∀ (H1 : Heap) (locs1 : List Loc), hp_Ws G B (hp_up h a (t, hp_ai G n (upd f j v))) s H1 locs1 → W p l e R s m args below meth c H1 locs1 cells slots Q (F0 m (pc + 1) ls rest)) : W p l e R s m args below meth c H locs cells slots Q (F0 m pc ls (.int v :: .int i :: .ref a :: rest)) := by
  subst hi
  refine ro_iast X w hdg ha ht (vp_in_nI hj (by omega)) ?_
  rw [nI_clamp (by omega)]
  exact kk
theorem tw_iast (X : CallFix p m c cc nL s args lw_all own) (w : hp_Ws G B h s H locs) (tw : TWf G x ad h0 T h) (k : Nat) {n j : Nat} {i v : Int32} (hk : tw_arr k = true) (hn : tw_len k = n) (hdg : decode cc pc = .ok (.iastore, 1)) (hi : i = nI j) (hj : j < n) (hn2 : n < 2147483648)
    (kk : ∀ (h1 : hp_H) (H1 : Heap) (locs1 : List Loc), hp_Ws G B h1 s H1 locs1 → TWf G x ad h0 (tw_a T k j v) h1 → W p l e R s m args below meth c H1 locs1 cells slots Q (F0 m (pc + 1) ls rest)) : W p l e R s m args below meth c H locs cells slots Q (F0 m pc ls (.int v :: .int i :: .ref (ad k) :: rest)) :=
  ro_iastE X w hdg (tw.ar k hk hn) (by decide) hi hj hn2 (fun H1 locs1 w1 => kk _ H1 locs1 w1 ⟨tw.1.seta k hk hn j v, tw.2.tr (hp_fr.up (tw.ar k hk hn) rfl)⟩)
theorem tp_X3_90 (X : CallFix p m c cc nL s args lw_all RX3) (w : hp_Ws G B h s H locs) (tw : TWf G x ad h0 T h) (hdg : decode cc pc = .ok (.putfield 90, 3)) {v : Int32} (kk : ∀ (h1 : hp_H) (H1 : Heap) (locs1 : List Loc), hp_Ws G B h1 s H1 locs1 → TWf G x ad h0 (tw_s T 0 v) h1 → W p l e R s m args below meth c H1 locs1 cells slots Q (F0 m (pc + 3) ls rest)) : W p l e R s m args below meth c H locs cells slots Q (F0 m pc ls (.int v :: .ref x :: rest)) :=
  pf_X3_90 X w hdg rfl rfl tw.o (by decide) (Nat.le_of_ble_eq_true rfl) (fun H1 locs1 w1 => kk _ H1 locs1 w1 ⟨tw.1.sets 0 v (tw_fs_0 T ad v), tw.2.tr (hp_fr.up tw.o rfl)⟩)
theorem tp_X3_83 (X : CallFix p m c cc nL s args lw_all RX3) (w : hp_Ws G B h s H locs) (tw : TWf G x ad h0 T h) (hdg : decode cc pc = .ok (.putfield 83, 3)) {v : Int32} (kk : ∀ (h1 : hp_H) (H1 : Heap) (locs1 : List Loc), hp_Ws G B h1 s H1 locs1 → TWf G x ad h0 (tw_s T 1 v) h1 → W p l e R s m args below meth c H1 locs1 cells slots Q (F0 m (pc + 3) ls rest)) : W p l e R s m args below meth c H locs cells slots Q (F0 m pc ls (.int v :: .ref x :: rest)) :=
  pf_X3_83 X w hdg rfl rfl tw.o (by decide) (Nat.le_of_ble_eq_true rfl) (fun H1 locs1 w1 => kk _ H1 locs1 w1 ⟨tw.1.sets 1 v (tw_fs_1 T ad v), tw.2.tr (hp_fr.up tw.o rfl)⟩)
theorem tp_X3_97 (X : CallFix p m c cc nL s args lw_all RX3) (w : hp_Ws G B h s H locs) (tw : TWf G x ad h0 T h) (hdg : decode cc pc = .ok (.putfield 97, 3)) {v : Int32} (kk : ∀ (h1 : hp_H) (H1 : Heap) (locs1 : List Loc), hp_Ws G B h1 s H1 locs1 → TWf G x ad h0 (tw_s T 6 v) h1 → W p l e R s m args below meth c H1 locs1 cells slots Q (F0 m (pc + 3) ls rest)) : W p l e R s m args below meth c H locs cells slots Q (F0 m pc ls (.int v :: .ref x :: rest)) :=
  pf_X3_97 X w hdg rfl rfl tw.o (by decide) (Nat.le_of_ble_eq_true rfl) (fun H1 locs1 w1 => kk _ H1 locs1 w1 ⟨tw.1.sets 6 v (tw_fs_6 T ad v), tw.2.tr (hp_fr.up tw.o rfl)⟩)
theorem tp_X3_113 (X : CallFix p m c cc nL s args lw_all RX3) (w : hp_Ws G B h s H locs) (tw : TWf G x ad h0 T h) (hdg : decode cc pc = .ok (.putfield 113, 3)) {v : Int32} (kk : ∀ (h1 : hp_H) (H1 : Heap) (locs1 : List Loc), hp_Ws G B h1 s H1 locs1 → TWf G x ad h0 (tw_s T 12 v) h1 → W p l e R s m args below meth c H1 locs1 cells slots Q (F0 m (pc + 3) ls rest)) : W p l e R s m args below meth c H locs cells slots Q (F0 m pc ls (.int v :: .ref x :: rest)) :=
  pf_X3_113 X w hdg rfl rfl tw.o (by decide) (Nat.le_of_ble_eq_true rfl) (fun H1 locs1 w1 => kk _ H1 locs1 w1 ⟨tw.1.sets 12 v (tw_fs_12 T ad v), tw.2.tr (hp_fr.up tw.o rfl)⟩)
theorem tp_X3_133 (X : CallFix p m c cc nL s args lw_all RX3) (w : hp_Ws G B h s H locs) (tw : TWf G x ad h0 T h) (hdg : decode cc pc = .ok (.putfield 133, 3)) {v : Int32} (kk : ∀ (h1 : hp_H) (H1 : Heap) (locs1 : List Loc), hp_Ws G B h1 s H1 locs1 → TWf G x ad h0 (tw_s T 13 v) h1 → W p l e R s m args below meth c H1 locs1 cells slots Q (F0 m (pc + 3) ls rest)) : W p l e R s m args below meth c H locs cells slots Q (F0 m pc ls (.int v :: .ref x :: rest)) :=
  pf_X3_133 X w hdg rfl rfl tw.o (by decide) (Nat.le_of_ble_eq_true rfl) (fun H1 locs1 w1 => kk _ H1 locs1 w1 ⟨tw.1.sets 13 v (tw_fs_13 T ad v), tw.2.tr (hp_fr.up tw.o rfl)⟩)
theorem tp_X3_153 (X : CallFix p m c cc nL s args lw_all RX3) (w : hp_Ws G B h s H locs) (tw : TWf G x ad h0 T h) (hdg : decode cc pc = .ok (.putfield 153, 3)) {v : Int32} (kk : ∀ (h1 : hp_H) (H1 : Heap) (locs1 : List Loc), hp_Ws G B h1 s H1 locs1 → TWf G x ad h0 (tw_s T 28 v) h1 → W p l e R s m args below meth c H1 locs1 cells slots Q (F0 m (pc + 3) ls rest)) : W p l e R s m args below meth c H locs cells slots Q (F0 m pc ls (.int v :: .ref x :: rest)) :=
  pf_X3_153 X w hdg rfl rfl tw.o (by decide) (Nat.le_of_ble_eq_true rfl) (fun H1 locs1 w1 => kk _ H1 locs1 w1 ⟨tw.1.sets 28 v (tw_fs_28 T ad v), tw.2.tr (hp_fr.up tw.o rfl)⟩)
theorem tp_X3_79 (X : CallFix p m c cc nL s args lw_all RX3) (w : hp_Ws G B h s H locs) (tw : TWf G x ad h0 T h) (hdg : decode cc pc = .ok (.putfield 79, 3)) {v : Int32} (kk : ∀ (h1 : hp_H) (H1 : Heap) (locs1 : List Loc), hp_Ws G B h1 s H1 locs1 → TWf G x ad h0 (tw_s T 29 v) h1 → W p l e R s m args below meth c H1 locs1 cells slots Q (F0 m (pc + 3) ls rest)) : W p l e R s m args below meth c H locs cells slots Q (F0 m pc ls (.int v :: .ref x :: rest)) :=
  pf_X3_79 X w hdg rfl rfl tw.o (by decide) (Nat.le_of_ble_eq_true rfl) (fun H1 locs1 w1 => kk _ H1 locs1 w1 ⟨tw.1.sets 29 v (tw_fs_29 T ad v), tw.2.tr (hp_fr.up tw.o rfl)⟩)
end TWR
