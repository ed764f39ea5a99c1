/-! ===== the typed heap, the classes, the world, the judgement AW ===== -/
/-- a cell's kind: none; an object of a class (by its number in vwCl); an array (its type's number, its length) -/
abbrev Kd : Type := Option (Nat ⊕ (Nat × Nat))
abbrev Hp : Type := (Nat → Kd) × (Nat → Nat → Int32) × (Nat → Nat → Option Nat) × (Nat → Nat → Int64)
def xK (h : Hp) (a : Nat) : Kd := h.1 a
def xI (h : Hp) (a k : Nat) : Int32 := h.2.1 a k
def xR (h : Hp) (a k : Nat) : Option Nat := h.2.2.1 a k
def xL (h : Hp) (a k : Nat) : Int64 := h.2.2.2 a k
def up2 {α : Type} (f : Nat → Nat → α) (a k : Nat) (v : α) : Nat → Nat → α := fun b j => if b = a ∧ j = k then v else f b j
def sI (h : Hp) (a k : Nat) (v : Int32) : Hp := (h.1, up2 h.2.1 a k v, h.2.2.1, h.2.2.2)
def sR (h : Hp) (a k : Nat) (v : Option Nat) : Hp := (h.1, h.2.1, up2 h.2.2.1 a k v, h.2.2.2)
def sL (h : Hp) (a k : Nat) (v : Int64) : Hp := (h.1, h.2.1, h.2.2.1, up2 h.2.2.2 a k v)
/-- a new cell: all nought -/
def sN (h : Hp) (q : Nat) (kd : Nat ⊕ (Nat × Nat)) : Hp := (fun b => if b = q then some kd else h.1 b, fun b j => if b = q then 0 else h.2.1 b j, fun b j => if b = q then none else h.2.2.1 b j, fun b j => if b = q then 0 else h.2.2.2 b j)
/-- an array copied into another one -/
def sC (h : Hp) (src sp dst dp n : Nat) : Hp := (h.1, fun b j => if b = dst then va_cpy (h.2.1 src) (h.2.1 dst) sp dp n j else h.2.1 b j, h.2.2.1, h.2.2.2)
theorem xK_sI (h : Hp) (a k : Nat) (v : Int32) (b : Nat) : xK (sI h a k v) b = xK h b := rfl
theorem xR_sI (h : Hp) (a k : Nat) (v : Int32) (b j : Nat) : xR (sI h a k v) b j = xR h b j := rfl
theorem xL_sI (h : Hp) (a k : Nat) (v : Int32) (b j : Nat) : xL (sI h a k v) b j = xL h b j := rfl
theorem xI_sI (h : Hp) (a k : Nat) (v : Int32) (b j : Nat) : xI (sI h a k v) b j = if b = a ∧ j = k then v else xI h b j := rfl
theorem xK_sR (h : Hp) (a k : Nat) (v : Option Nat) (b : Nat) : xK (sR h a k v) b = xK h b := rfl
theorem xI_sR (h : Hp) (a k : Nat) (v : Option Nat) (b j : Nat) : xI (sR h a k v) b j = xI h b j := rfl
theorem xL_sR (h : Hp) (a k : Nat) (v : Option Nat) (b j : Nat) : xL (sR h a k v) b j = xL h b j := rfl
theorem xR_sR (h : Hp) (a k : Nat) (v : Option Nat) (b j : Nat) : xR (sR h a k v) b j = if b = a ∧ j = k then v else xR h b j := rfl
theorem xK_sL (h : Hp) (a k : Nat) (v : Int64) (b : Nat) : xK (sL h a k v) b = xK h b := rfl
theorem xI_sL (h : Hp) (a k : Nat) (v : Int64) (b j : Nat) : xI (sL h a k v) b j = xI h b j := rfl
theorem xR_sL (h : Hp) (a k : Nat) (v : Int64) (b j : Nat) : xR (sL h a k v) b j = xR h b j := rfl
theorem xL_sL (h : Hp) (a k : Nat) (v : Int64) (b j : Nat) : xL (sL h a k v) b j = if b = a ∧ j = k then v else xL h b j := rfl
theorem xK_sN (h : Hp) (q : Nat) (kd : Nat ⊕ (Nat × Nat)) (b : Nat) : xK (sN h q kd) b = if b = q then some kd else xK h b := rfl
theorem xI_sN (h : Hp) (q : Nat) (kd : Nat ⊕ (Nat × Nat)) (b j : Nat) : xI (sN h q kd) b j = if b = q then 0 else xI h b j := rfl
theorem xR_sN (h : Hp) (q : Nat) (kd : Nat ⊕ (Nat × Nat)) (b j : Nat) : xR (sN h q kd) b j = if b = q then none else xR h b j := rfl
theorem xL_sN (h : Hp) (q : Nat) (kd : Nat ⊕ (Nat × Nat)) (b j : Nat) : xL (sN h q kd) b j = if b = q then 0 else xL h b j := rfl
theorem xK_sC (h : Hp) (src sp dst dp n b : Nat) : xK (sC h src sp dst dp n) b = xK h b := rfl
theorem xR_sC (h : Hp) (src sp dst dp n b j : Nat) : xR (sC h src sp dst dp n) b j = xR h b j := rfl
theorem xL_sC (h : Hp) (src sp dst dp n b j : Nat) : xL (sC h src sp dst dp n) b j = xL h b j := rfl
theorem xI_sC (h : Hp) (src sp dst dp n b j : Nat) : xI (sC h src sp dst dp n) b j = if b = dst then va_cpy (xI h src) (xI h dst) sp dp n j else xI h b j := rfl
/-- the classes by their numbers (3 is a second name of 4) -/
def TX0_ : u_T := fun _ => ("", "", "", false)
abbrev vwCl : List vw_C := [(RX0, TX0, 26), (RX1, TX1, 4), (RX2, TX2, 7), (RX4, TX0_, 0), (RX4, TX0_, 0), (RX5, TX0_, 0), (RX6, TX0_, 0), (RX7, TX7, 10), (RX8, TX8, 2), (RX9, TX9, 44), (RX10, TX10, 4), (RX11, TX11, 9), (RX12, TX12, 8), (RX13, TX13, 4), (RX14, TX14, 6)]
def fty (ci k : Nat) : FieldType := match ci with
  | 0 => tyX0 k
  | 1 => tyX1 k
  | 2 => tyX2 k
  | 7 => tyX7 k
  | 8 => tyX8 k
  | 9 => tyX9 k
  | 10 => tyX10 k
  | 11 => tyX11 k
  | 12 => tyX12 k
  | 13 => tyX13 k
  | 14 => tyX14 k
  | _ => .int
def nF (ci : Nat) : Nat := match ci with
  | 0 => 26
  | 1 => 4
  | 2 => 7
  | 7 => 10
  | 8 => 2
  | 9 => 44
  | 10 => 4
  | 11 => 9
  | 12 => 8
  | 13 => 4
  | 14 => 6
  | _ => 0
/-- a class's facts -/
def Cls (ci : Nat) (C : String) (T : u_T) (N : Nat) : Prop := vwCl[ci]? = some (C, T, N) ∧ (∀ w ∈ u_ws C T N, w ∈ lw_all) ∧ (∀ k, k < N → parseFieldDescriptor (T k).2.2.1 = some (fty ci k)) ∧ (∀ a, a < N → ∀ b, b < N → a ≠ b → (T a).2.1 ≠ (T b).2.1) ∧ nF ci = N
theorem clX0 : Cls 0 RX0 TX0 26 := ⟨rfl, in_X0, tyX0_ok, nmX0, rfl⟩
theorem clX1 : Cls 1 RX1 TX1 4 := ⟨rfl, in_X1, tyX1_ok, nmX1, rfl⟩
theorem clX2 : Cls 2 RX2 TX2 7 := ⟨rfl, in_X2, tyX2_ok, nmX2, rfl⟩
theorem clX4 : Cls 4 RX4 TX0_ 0 := ⟨rfl, fun w h => by simp [u_ws] at h, fun k h => absurd h (Nat.not_lt_zero k), fun k h => absurd h (Nat.not_lt_zero k), rfl⟩
theorem clX5 : Cls 5 RX5 TX0_ 0 := ⟨rfl, fun w h => by simp [u_ws] at h, fun k h => absurd h (Nat.not_lt_zero k), fun k h => absurd h (Nat.not_lt_zero k), rfl⟩
theorem clX6 : Cls 6 RX6 TX0_ 0 := ⟨rfl, fun w h => by simp [u_ws] at h, fun k h => absurd h (Nat.not_lt_zero k), fun k h => absurd h (Nat.not_lt_zero k), rfl⟩
theorem clX7 : Cls 7 RX7 TX7 10 := ⟨rfl, in_X7, tyX7_ok, nmX7, rfl⟩
theorem clX8 : Cls 8 RX8 TX8 2 := ⟨rfl, in_X8, tyX8_ok, nmX8, rfl⟩
theorem clX9 : Cls 9 RX9 TX9 44 := ⟨rfl, in_X9, tyX9_ok, nmX9, rfl⟩
theorem clX10 : Cls 10 RX10 TX10 4 := ⟨rfl, in_X10, tyX10_ok, nmX10, rfl⟩
theorem clX11 : Cls 11 RX11 TX11 9 := ⟨rfl, in_X11, tyX11_ok, nmX11, rfl⟩
theorem clX12 : Cls 12 RX12 TX12 8 := ⟨rfl, in_X12, tyX12_ok, nmX12, rfl⟩
theorem clX13 : Cls 13 RX13 TX13 4 := ⟨rfl, in_X13, tyX13_ok, nmX13, rfl⟩
theorem clX14 : Cls 14 RX14 TX14 6 := ⟨rfl, in_X14, tyX14_ok, nmX14, rfl⟩
/-- what a field holds, by its type -/
def fv (h : Hp) (ci a k : Nat) : Value := match fty ci k with
  | .long => .long (xL h a k)
  | .object _ => va_rf (xR h a k)
  | .array _ => va_rf (xR h a k)
  | _ => .int (xI h a k)
def flds (h : Hp) (ci a : Nat) : List Value := (List.range (nF ci)).map (fv h ci a)
def cellOf (dA : Nat → ClassId) (h : Hp) (a : Nat) : Option va_E := match xK h a with
  | none => none
  | some (.inl ci) => some (.inr (ci, flds h ci a))
  | some (.inr (t, n)) => some (.inl (dA t, n, if t < 3 then .inl (xI h a) else .inr (.inr (.inr (.inr (xR h a))))))
/-- the list of cells holds just what the typed heap says -/
def Lk (ws : va_W) (f : Nat → Option va_E) : Prop := ∀ (a : Nat) (e : va_E), f a = some e ↔ ∃ k : Nat, ws[k]? = some (a, e)
theorem Lk.set {ws : va_W} {f f' : Nat → Option va_E} {A : Nat → Prop} {q a : Nat} {e0 e : va_E} (h : Lk ws f) (hD : va_D A ws) (hq : ws[q]? = some (a, e0)) (h1 : f' a = some e) (h2 : ∀ b, b ≠ a → f' b = f b) : Lk (ws.set q (a, e)) f' := by
  have hl := (List.getElem?_eq_some_iff.mp hq).1
  intro b x
  by_cases hb : b = a
  · subst hb
    rw [h1]
    constructor
    · intro hx
      cases hx
      exact ⟨q, by rw [List.getElem?_set_self hl]⟩
    · rintro ⟨k, hk⟩
      by_cases hkq : k = q
      · subst hkq
        rw [List.getElem?_set_self hl] at hk
        cases hk
        rfl
      · rw [List.getElem?_set_ne (Ne.symm hkq)] at hk
        exact absurd (hD.1 k q _ _ hk hq rfl) hkq
  · rw [h2 b hb, h b x]
    constructor
    · rintro ⟨k, hk⟩
      have hkq : k ≠ q := fun z => by subst z; rw [hq] at hk; cases hk; exact hb rfl
      exact ⟨k, by rw [List.getElem?_set_ne (Ne.symm hkq)]; exact hk⟩
    · rintro ⟨k, hk⟩
      by_cases hkq : k = q
      · subst hkq
        rw [List.getElem?_set_self hl] at hk
        cases hk
        exact absurd rfl hb
      · rw [List.getElem?_set_ne (Ne.symm hkq)] at hk
        exact ⟨k, hk⟩
theorem Lk.push {ws : va_W} {f f' : Nat → Option va_E} {A : Nat → Prop} {a : Nat} {e : va_E} (h : Lk ws f) (hD : va_D A (ws ++ [(a, e)])) (h1 : f' a = some e) (h2 : ∀ b, b ≠ a → f' b = f b) : Lk (ws ++ [(a, e)]) f' ∧ f a = none := by
  have hn : f a = none := by
    cases hf : f a with
    | none => rfl
    | some x =>
      obtain ⟨k, hk⟩ := (h a x).mp hf
      have hkl := (List.getElem?_eq_some_iff.mp hk).1
      have e1 : (ws ++ [(a, e)])[k]? = some (a, x) := by rw [List.getElem?_append_left hkl]; exact hk
      have e2 : (ws ++ [(a, e)])[ws.length]? = some (a, e) := by simp
      have := hD.1 k ws.length _ _ e1 e2 rfl
      omega
  refine ⟨?_, hn⟩
  intro b x
  by_cases hb : b = a
  · subst hb
    rw [h1]
    constructor
    · intro hx
      cases hx
      exact ⟨ws.length, by simp⟩
    · rintro ⟨k, hk⟩
      have e2 : (ws ++ [(b, e)])[ws.length]? = some (b, e) := by simp
      have hkk := hD.1 k ws.length _ _ hk e2 rfl
      subst hkk
      rw [e2] at hk
      cases hk
      rfl
  · rw [h2 b hb, h b x]
    constructor
    · rintro ⟨k, hk⟩
      have hkl := (List.getElem?_eq_some_iff.mp hk).1
      exact ⟨k, by rw [List.getElem?_append_left hkl]; exact hk⟩
    · rintro ⟨k, hk⟩
      by_cases hkl : k < ws.length
      · rw [List.getElem?_append_left hkl] at hk
        exact ⟨k, hk⟩
      · rw [List.getElem?_append_right (by omega)] at hk
        have hz : k - ws.length < 1 := (List.getElem?_eq_some_iff.mp hk).1
        rw [show k - ws.length = 0 by omega] at hk
        cases hk
        exact absurd rfl hb
theorem fv_int {h : Hp} {ci a k : Nat} (hk : fty ci k = .int) : fv h ci a k = .int (xI h a k) := by unfold fv; rw [hk]
theorem fv_bool {h : Hp} {ci a k : Nat} (hk : fty ci k = .boolean) : fv h ci a k = .int (xI h a k) := by unfold fv; rw [hk]
theorem fv_long {h : Hp} {ci a k : Nat} (hk : fty ci k = .long) : fv h ci a k = .long (xL h a k) := by unfold fv; rw [hk]
theorem fv_obj {h : Hp} {ci a k : Nat} {C : String} (hk : fty ci k = .object C) : fv h ci a k = va_rf (xR h a k) := by unfold fv; rw [hk]
theorem fv_arr {h : Hp} {ci a k : Nat} {t : FieldType} (hk : fty ci k = .array t) : fv h ci a k = va_rf (xR h a k) := by unfold fv; rw [hk]
def isI (t : FieldType) : Bool := match t with
  | .int => true
  | .boolean => true
  | _ => false
def isRf (t : FieldType) : Bool := match t with
  | .object _ => true
  | .array _ => true
  | _ => false
theorem fv_I {h : Hp} {ci a k : Nat} (hk : isI (fty ci k) = true) : fv h ci a k = .int (xI h a k) := by
  unfold fv
  cases e : fty ci k <;> rw [e] at hk <;> first | rfl | (simp [isI] at hk)
theorem fv_R {h : Hp} {ci a k : Nat} (hk : isRf (fty ci k) = true) : fv h ci a k = va_rf (xR h a k) := by
  unfold fv
  cases e : fty ci k <;> rw [e] at hk <;> first | rfl | (simp [isRf] at hk)
theorem flds_get {h : Hp} {ci a k : Nat} (hk : k < nF ci) : (flds h ci a)[k]? = some (fv h ci a k) := by
  unfold flds
  rw [List.getElem?_map, List.getElem?_range hk]
  rfl
theorem flds_set {h h' : Hp} {ci a k : Nat} {v : Value} (hv : fv h' ci a k = v) (ho : ∀ j, j ≠ k → fv h' ci a j = fv h ci a j) (hk : k < nF ci) : (flds h ci a).set k v = flds h' ci a := by
  apply List.ext_getElem?
  intro j
  by_cases hjk : j = k
  · subst hjk
    rw [List.getElem?_set_self (by simpa [flds] using hk), flds_get hk, hv]
  · rw [List.getElem?_set_ne (Ne.symm hjk)]
    by_cases hj : j < nF ci
    · rw [flds_get hj, flds_get hj, ho j hjk]
    · have e1 : (flds h ci a)[j]? = none := by simp [flds]; omega
      have e2 : (flds h' ci a)[j]? = none := by simp [flds]; omega
      rw [e1, e2]
theorem cellOf_obj {dA : Nat → ClassId} {h : Hp} {a ci : Nat} (hk : xK h a = some (.inl ci)) : cellOf dA h a = some (.inr (ci, flds h ci a)) := by unfold cellOf; rw [hk]
theorem cellOf_arr {dA : Nat → ClassId} {h : Hp} {a t n : Nat} (hk : xK h a = some (.inr (t, n))) (ht : t < 3) : cellOf dA h a = some (.inl (dA t, n, .inl (xI h a))) := by unfold cellOf; rw [hk]; simp [ht]
theorem cellOf_ref {dA : Nat → ClassId} {h : Hp} {a t n : Nat} (hk : xK h a = some (.inr (t, n))) (ht : ¬ t < 3) : cellOf dA h a = some (.inl (dA t, n, .inr (.inr (.inr (.inr (xR h a)))))) := by unfold cellOf; rw [hk]; simp [ht]
theorem cellOf_none {dA : Nat → ClassId} {h : Hp} {a : Nat} : cellOf dA h a = none ↔ xK h a = none := by
  unfold cellOf
  cases e : xK h a with
  | none => simp
  | some x =>
    cases x with
    | inl ci => simp
    | inr t => obtain ⟨t, n⟩ := t; simp
theorem fv_congr {h h' : Hp} {ci b k : Nat} (hI : xI h' b k = xI h b k) (hR : xR h' b k = xR h b k) (hL : xL h' b k = xL h b k) : fv h' ci b k = fv h ci b k := by
  unfold fv
  rw [hI, hR, hL]
theorem cellOf_congr {dA : Nat → ClassId} {h h' : Hp} {b : Nat} (hK : xK h' b = xK h b) (hI : ∀ j, xI h' b j = xI h b j) (hR : ∀ j, xR h' b j = xR h b j) (hL : ∀ j, xL h' b j = xL h b j) : cellOf dA h' b = cellOf dA h b := by
  have e1 : xI h' b = xI h b := funext hI
  have e2 : xR h' b = xR h b := funext hR
  have e3 : ∀ ci, fv h' ci b = fv h ci b := fun ci => funext fun k => fv_congr (hI k) (hR k) (hL k)
  unfold cellOf flds
  rw [hK]
  cases xK h b with
  | none => rfl
  | some x =>
    cases x with
    | inl ci => simp only [e3]
    | inr t => obtain ⟨t, n⟩ := t; simp only [e1, e2]
theorem cellOf_sI {dA : Nat → ClassId} {h : Hp} {a k : Nat} {v : Int32} {b : Nat} (hb : b ≠ a) : cellOf dA (sI h a k v) b = cellOf dA h b :=
  cellOf_congr rfl (fun j => by rw [xI_sI]; simp [hb]) (fun _ => rfl) (fun _ => rfl)
theorem cellOf_sR {dA : Nat → ClassId} {h : Hp} {a k : Nat} {v : Option Nat} {b : Nat} (hb : b ≠ a) : cellOf dA (sR h a k v) b = cellOf dA h b :=
  cellOf_congr rfl (fun _ => rfl) (fun j => by rw [xR_sR]; simp [hb]) (fun _ => rfl)
theorem cellOf_sL {dA : Nat → ClassId} {h : Hp} {a k : Nat} {v : Int64} {b : Nat} (hb : b ≠ a) : cellOf dA (sL h a k v) b = cellOf dA h b :=
  cellOf_congr rfl (fun _ => rfl) (fun _ => rfl) (fun j => by rw [xL_sL]; simp [hb])
theorem cellOf_sN {dA : Nat → ClassId} {h : Hp} {q : Nat} {kd : Nat ⊕ (Nat × Nat)} {b : Nat} (hb : b ≠ q) : cellOf dA (sN h q kd) b = cellOf dA h b :=
  cellOf_congr (by rw [xK_sN, if_neg hb]) (fun j => by rw [xI_sN]; simp [hb]) (fun j => by rw [xR_sN]; simp [hb]) (fun j => by rw [xL_sN]; simp [hb])
theorem cellOf_sC {dA : Nat → ClassId} {h : Hp} {src sp dst dp n : Nat} {b : Nat} (hb : b ≠ dst) : cellOf dA (sC h src sp dst dp n) b = cellOf dA h b :=
  cellOf_congr rfl (fun j => by rw [xI_sC]; simp [hb]) (fun _ => rfl) (fun _ => rfl)
