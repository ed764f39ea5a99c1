/-! ===== the reference: plain public methods (printed by h13.py) ===== -/
/-- a loop upwards, goal first -/
theorem loopUp {A : Nat → Prop} (N : Nat) (hN : A N) (hs : ∀ j, j < N → A (j + 1) → A j) : ∀ j, j ≤ N → A j := by
  have key : ∀ d j, j + d = N → A j := by
    intro d
    induction d with
    | zero => intro j h; rw [show j = N by omega]; exact hN
    | succ d ih => intro j h; exact hs j (by omega) (ih (j + 1) (by omega))
  exact fun j h => key (N - j) j (by omega)
def TgOK (g : Tg) (i : Nat) : Prop := ∃ m r w : Nat, g 3 i = nI m ∧ m ≤ 40 ∧ g 4 i = nI r ∧ r ≤ 8 ∧ g 5 i = nI w ∧ w ≤ 3
/-- step j of plan p: slots, seeing, air, dark; a wait from least to most ahead of a later one -/
def StOK (g : Tg) (p j : Nat) : Prop := ∃ a b c d : Nat, g 22 (23 * p + 5 + 6 * j) = nI a ∧ 1 ≤ a ∧ a ≤ 4 ∧ g 22 (23 * p + 5 + 6 * j + 1) = nI b ∧ b ≤ 3 ∧ g 22 (23 * p + 5 + 6 * j + 2) = nI c ∧ c ≤ 8 ∧ g 22 (23 * p + 5 + 6 * j + 3) = nI d ∧ d ≤ 1 ∧
  (j = 0 → g 22 (23 * p + 5 + 6 * j + 4) = -1 ∧ g 22 (23 * p + 5 + 6 * j + 5) = -1) ∧ (0 < j → ∃ l m : Nat, g 22 (23 * p + 5 + 6 * j + 4) = nI l ∧ l ≤ 6 ∧ g 22 (23 * p + 5 + 6 * j + 5) = nI m ∧ l ≤ m ∧ m ≤ l + 3)
def PlOK (f : Tf) (g : Tg) (p : Nat) : Prop := ∃ a b c d s : Nat, g 22 (23 * p) = nI a ∧ a ≤ 3 ∧ g 22 (23 * p + 1) = nI b ∧ b ≤ 2 ∧ g 22 (23 * p + 2) = nI c ∧ c < (f 2).toNatClampNeg ∧ g 22 (23 * p + 3) = nI d ∧ 1 ≤ d ∧ d ≤ 99 ∧ g 22 (23 * p + 4) = nI s ∧ 1 ≤ s ∧ s ≤ 3 ∧
  (∀ j, j < s → StOK g p j) ∧ ∀ j, s ≤ j → j < 3 → ∀ k, k < 6 → g 22 (23 * p + 5 + 6 * j + k) = -1
/-- what always holds of the state -/
def MI (f : Tf) (g : Tg) : Prop :=
  (∃ n : Nat, f 0 = nI n ∧ 4 ≤ n ∧ n ≤ 12) ∧ (∃ d : Nat, f 1 = nI d ∧ d ≤ 300) ∧ (∃ t : Nat, f 2 = nI t ∧ t ≤ 8 ∧ ∀ i, i < t → TgOK g i) ∧ (∃ w : Nat, f 10 = nI w ∧ w ≤ 4 ∧ ∀ i, i < w → ∃ x : Nat, g 11 i = nI x ∧ 1 ≤ x ∧ x ≤ 9) ∧ (∃ b : Nat, f 12 = nI b ∧ b ≤ 160 ∧ ∀ i, i < b → ∃ x : Nat, g 13 i = nI x ∧ x < 256) ∧ (∃ p : Nat, f 21 = nI p ∧ p ≤ 5 ∧ ∀ i, i < p → PlOK f g i) ∧ (f 31 = 0 ∨ f 31 = 1) ∧ (∀ i, i < 72 → ∃ x : Nat, g 9 i = nI x ∧ x ≤ 4) ∧ ((f 6 = -1 ∨ ∃ x : Nat, f 6 = nI x ∧ x ≤ 3))
def fill (g : Tg) (k j : Nat) (v : Int32) : Tg := fun a i => if a = k ∧ i < j then v else g a i
theorem fill_0 (g : Tg) (k : Nat) (v : Int32) : fill g k 0 v = g := by
  funext a i
  simp [fill]
theorem fill_s (g : Tg) (k j : Nat) (v : Int32) : up2 (fill g k j v) k j v = fill g k (j + 1) v := by
  funext a i
  unfold up2 fill
  by_cases h : a = k
  · subst h
    by_cases h2 : i = j
    · subst h2; simp
    · simp only [h2, true_and, and_false, if_false]
      by_cases h3 : i < j
      · rw [if_pos h3, if_pos (by omega)]
      · rw [if_neg h3, if_neg (by omega)]
  · simp [h]
theorem inB_n {x : Int32} {a b : Nat} {l m : Int32} (hl : l = nI a) (hm : m = nI b) (ha : a < 2 ^ 31) (hb : b < 2 ^ 31) (h : inB x l m = true) : ∃ n : Nat, x = nI n ∧ a ≤ n ∧ n ≤ b := by
  obtain ⟨h1, h2⟩ := inB_t.mp h
  subst hl hm
  have h0 : ¬ x < 0 := fun z => by
    have := Int32.lt_of_lt_of_le z (nI_pos' ha)
    exact absurd h1 (Int32.not_le.mpr this)
  obtain ⟨j, hj, rfl⟩ := nI_of h0
  exact ⟨j, rfl, (nI_leI ha hj).mp h1, (nI_leI hj hb).mp h2⟩
theorem inB_nI {n a b : Nat} {l m : Int32} (hl : l = nI a) (hm : m = nI b) (hn : n < 2 ^ 31) (ha : a < 2 ^ 31) (hb : b < 2 ^ 31) : inB (nI n) l m = (decide (a ≤ n) && decide (n ≤ b)) := by
  subst hl hm
  unfold inB
  congr 1 <;> apply decide_eq_decide.mpr
  · exact nI_leI ha hn
  · exact nI_leI hn hb
theorem nc (n : Nat) (h : n < 2 ^ 31 := by omega) : (nI n).toNatClampNeg = n := nI_clamp h
theorem lm (c a : Nat) {x : Int32} (hx : x = nI c := by rfl) : x * nI a = nI (c * a) := by subst hx; exact pk_mul c a
theorem la (c a : Nat) {x : Int32} (hx : x = nI c := by rfl) : x + nI a = nI (c + a) := by subst hx; exact nI_add c a
theorem ra (a c : Nat) {x : Int32} (hx : x = nI c := by rfl) : nI a + x = nI (a + c) := by subst hx; exact nI_add a c
theorem upd_s (f : Tf) (k : Nat) (v : Int32) : upd f k v k = v := by simp [upd]
theorem inB_lo {x : Int32} {n : Nat} (h : inB x 0 (nI n - 1) = true) (hn : n < 2 ^ 31) : ∃ j : Nat, j < n ∧ x = nI j := by
  cases n with
  | zero =>
    obtain ⟨h1, h2⟩ := inB_t.mp h
    exact absurd (Int32.le_trans h1 h2) (by decide)
  | succ n =>
    obtain ⟨j, rfl, -, hj⟩ := inB_n (a := 0) (b := n) rfl (nI_pred n) (by decide) (by omega) h
    exact ⟨j, by omega, rfl⟩
theorem inB_lo' {n j : Nat} (hj : j < n) (hn : n < 2 ^ 31) : inB (nI j) 0 (nI n - 1) = true := by
  cases n with
  | zero => omega
  | succ n =>
    rw [nI_pred]
    exact inB_t.mpr ⟨nI_pos' (by omega), (nI_leI (by omega) (by omega)).mpr (by omega)⟩
theorem MI.sky {f : Tf} {g : Tg} (h : MI f g) {k : Int32} (hk : inB k 0 (1 + f 10) = true) : ∃ a w : Nat, k = nI a ∧ a ≤ 5 ∧ f 10 = nI w ∧ w ≤ 4 ∧ a ≤ 1 + w := by
  obtain ⟨-, -, -, ⟨w, hw, hw4, -⟩, -⟩ := h
  rw [hw] at hk
  obtain ⟨a, rfl, -, ha⟩ := inB_n (a := 0) (b := 1 + w) rfl (la 1 w) (by decide) (by omega) hk
  exact ⟨a, w, rfl, by omega, hw, hw4, ha⟩
theorem MI.slot {f : Tf} {g : Tg} (h : MI f g) {s : Int32} (hs : inB s 0 (f 0 - 1) = true) : ∃ a n : Nat, s = nI a ∧ a < 12 ∧ f 0 = nI n ∧ n ≤ 12 ∧ a < n := by
  obtain ⟨⟨n, hn, hn4, hn12⟩, -⟩ := h
  rw [hn] at hs
  obtain ⟨a, ha, rfl⟩ := inB_lo hs (by omega)
  exact ⟨a, n, rfl, by omega, hn, hn12, ha⟩
theorem MI.plan {f : Tf} {g : Tg} (h : MI f g) {p : Int32} (hp : inB p 0 (f 21 - 1) = true) : ∃ a n : Nat, p = nI a ∧ a < 5 ∧ f 21 = nI n ∧ n ≤ 5 ∧ a < n ∧ PlOK f g a := by
  obtain ⟨-, -, -, -, -, ⟨n, hn, hn5, hp5⟩, -⟩ := h
  rw [hn] at hp
  obtain ⟨a, ha, rfl⟩ := inB_lo hp (by omega)
  exact ⟨a, n, rfl, by omega, hn, hn5, ha, hp5 a ha⟩
def rSlots (f : Tf) (v : Int32) : Int32 := if inB v 4 12 then f 0 else -3
def fSlots (f : Tf) (v : Int32) : Tf := if inB v 4 12 then upd (upd (upd f 0 v) 6 (-1)) 10 0 else f
def gSlots (g : Tg) (v : Int32) : Tg := if inB v 4 12 then fill g 9 24 1 else g
abbrev MX9_slots : Mi := (yX9_slots, cX9_slots, 4, some .int, { frames := 1, cells := 0, slots := 0, locals := 22 })
theorem nmX9_slots : Nm yX9_slots 1 := ⟨by decide +kernel, by decide +kernel, by decide +kernel⟩
theorem vcX9_slots_0 {G : Gl} {o : Nat} {ad : Nat → Nat} {h0 : Hp} {Q : Option Value → Tf → Tg → Te → Prop} (f : Tf) (g : Tg) (e : Te) (v : Int32) (hv : (((inB v 4 12) = true → AWT G o ad h0 MX9_slots Q (upd f 0 v) g e 25 [(0, .ref o), (2, .int (f 0)), (3, .int 0)] []) ∧ ((inB v 4 12) = false → Q (some (.int (-3))) f g e))) :
    AWT G o ad h0 MX9_slots Q f g e 0 [(0, .ref o), (1, .int v)] [] := by
  refine AWT_iload_n (pc := 0) dX9_slots_0 rfl 1 rfl ?_
  refine AWT_iconst (pc := 1) (v := 4) dX9_slots_1 (by decide) ?_
  refine AWT_bipush (pc := 2) (v := 12) dX9_slots_2 (by decide) ?_
  refine AWT_callS (M' := MX9_in) (pc := 4) [.int v, .int 4, .int 12] [] nmX9_in ⟨rfl, rfl⟩ (ML.o q1180) q1181 q82 q1182 dX9_slots_4 rfl rfl (Nat.le_of_ble_eq_true rfl) ⟨Nat.le_of_ble_eq_true rfl, Nat.le_of_ble_eq_true rfl⟩ (mcX9_in f g e v 4 12 ) ?_
  rintro _ _ _ _ ⟨rfl, rfl, rfl, rfl⟩
  refine AWT_ifb_ne (pc := 7) (tgt := 13) dX9_slots_7 (by decide) (fun c1 => ?_) (fun c1 => ?_)
  · have hv := hv.1 c1
    refine AWT_aload_n (pc := 13) dX9_slots_13 rfl 0 rfl ?_
    refine AWT_getI (pc := 14) 0 (by decide) rfl (FL.o q1043) dX9_slots_14 ?_
    refine AWT_istore_n (pc := 17) (lv' := [(2, .int (f 0)), (0, .ref o), (1, .int v)]) dX9_slots_17 rfl (by decide) rfl ?_
    refine AWT_aload_n (pc := 18) dX9_slots_18 rfl 1 rfl ?_
    refine AWT_iload_n (pc := 19) dX9_slots_19 rfl 2 rfl ?_
    refine AWT_putI (pc := 20) 0 (by decide) rfl (FL.o q1043) rfl dX9_slots_20 ?_
    refine AWT_iconst (pc := 23) (v := 0) dX9_slots_23 (by decide) ?_
    refine AWT_istore_n (pc := 24) (lv' := [(3, .int 0), (2, .int (f 0)), (0, .ref o), (1, .int v)]) dX9_slots_24 rfl (by decide) rfl ?_
    refine AWT_lv (lv' := [(0, .ref o), (2, .int (f 0)), (3, .int 0)]) [2, 1, 0] rfl ?_
    exact hv
  · have hv := hv.2 c1
    refine AWT_bipush (pc := 10) (v := (-3)) dX9_slots_10 (by decide) ?_
    exact AWT_iret (pc := 12) rfl rfl dX9_slots_12 hv
theorem vcX9_slots_25 {G : Gl} {o : Nat} {ad : Nat → Nat} {h0 : Hp} {Q : Option Value → Tf → Tg → Te → Prop} (f : Tf) (g : Tg) (e : Te) (was : Int32) (k : Int32) (hv : ((24 ≤ k → Q (some (.int was)) (upd (upd f 6 (-1)) 10 0) g e) ∧ (¬ 24 ≤ k → vp_in k 72 ∧ AWT G o ad h0 MX9_slots Q f (up2 g 9 k.toNatClampNeg 1) e 25 [(0, .ref o), (2, .int was), (3, .int (k + 1))] []))) :
    AWT G o ad h0 MX9_slots Q f g e 25 [(0, .ref o), (2, .int was), (3, .int k)] [] := by
  refine AWT_iload_n (pc := 25) dX9_slots_25 rfl 2 rfl ?_
  refine AWT_bipush (pc := 26) (v := 24) dX9_slots_26 (by decide) ?_
  refine AWT_icmp_ge (pc := 28) (tgt := 44) dX9_slots_28 (by decide) (fun c1 => ?_) (fun c1 => ?_)
  · have hv := hv.1 c1
    refine AWT_aload_n (pc := 44) dX9_slots_44 rfl 0 rfl ?_
    refine AWT_iconst (pc := 45) (v := (-1)) dX9_slots_45 (by decide) ?_
    refine AWT_putI (pc := 46) 6 (by decide) rfl (FL.o q1049) rfl dX9_slots_46 ?_
    refine AWT_aload_n (pc := 49) dX9_slots_49 rfl 0 rfl ?_
    refine AWT_iconst (pc := 50) (v := 0) dX9_slots_50 (by decide) ?_
    refine AWT_putI (pc := 51) 10 (by decide) rfl (FL.o q1053) rfl dX9_slots_51 ?_
    refine AWT_iload_n (pc := 54) dX9_slots_54 rfl 1 rfl ?_
    exact AWT_iret (pc := 55) rfl rfl dX9_slots_55 hv
  · have hv := hv.2 c1
    refine AWT_aload_n (pc := 31) dX9_slots_31 rfl 0 rfl ?_
    refine AWT_getA (pc := 32) 9 (by decide) rfl rfl (FL.o q1052) dX9_slots_32 ?_
    refine AWT_iload_n (pc := 35) dX9_slots_35 rfl 2 rfl ?_
    refine AWT_iconst (pc := 36) (v := 1) dX9_slots_36 (by decide) ?_
    refine AWT_iast (pc := 37) (k := 9) (n := 72) rfl dX9_slots_37 hv.1 ?_
    have hv := hv.2
    refine AWT_iinc (pc := 38) (v := k + 1) (lv' := [(3, .int (k + 1)), (0, .ref o), (2, .int was)]) dX9_slots_38 2 rfl rfl (by decide) rfl ?_
    refine AWT_goto (pc := 41) (tgt := 25) dX9_slots_41 (by decide) ?_
    refine AWT_lv (lv' := [(0, .ref o), (2, .int was), (3, .int (k + 1))]) [1, 2, 0] rfl ?_
    exact hv
theorem mcX9_slots {G : Gl} {o : Nat} {ad : Nat → Nat} (f : Tf) (g : Tg) (e : Te) (v : Int32)  : MCT G o ad MX9_slots [.ref o, .int v] f g e (fun v0 f1 g1 e1 => v0 = some (.int (rSlots f v)) ∧ fSlots f v = f1 ∧ gSlots g v = g1 ∧ e = e1) := by
  refine MCT.of ⟨rfl, rfl⟩ (by decide) (Nat.le_of_ble_eq_true rfl) rfl (fun h0 => vcX9_slots_0 f g e v ?_)
  refine ⟨fun c => ?_, fun c => by simp [rSlots, fSlots, gSlots, c]⟩
  rw [show AWT G o ad h0 MX9_slots = AWT G o ad h0 MX9_slots from rfl]
  rw [← fill_0 g 9 1]
  refine loopUp (A := fun j => AWT G o ad h0 MX9_slots _ (upd f 0 v) (fill g 9 j 1) e 25 [(0, .ref o), (2, .int (f 0)), (3, .int (nI j))] []) 24 ?_ ?_ 0 (by omega)
  · refine vcX9_slots_25 _ _ e _ _ (br_t (by decide) ?_)
    simp [rSlots, fSlots, gSlots, c, fill_0]
  · intro j hj ih
    refine vcX9_slots_25 _ _ e _ _ (pk_le 24 j (fun z => by omega) (fun _ => ⟨pk_in j 72 (by omega), ?_⟩))
    rw [nc j, fill_s, nI_1]
    exact ih
def okTg (m r w : Int32) : Bool := inB m 0 40 && (inB r 0 8 && inB w 0 3)
def rTarget (f : Tf) (m r w : Int32) : Int32 := if okTg m r w then (if f 2 = 8 then -5 else f 2) else -3
def fTarget (f : Tf) (m r w : Int32) : Tf := if okTg m r w then (if f 2 = 8 then f else upd f 2 (f 2 + 1)) else f
def gTarget (f : Tf) (g : Tg) (m r w : Int32) : Tg := if okTg m r w then (if f 2 = 8 then g else up2 (up2 (up2 g 3 (f 2).toNatClampNeg m) 4 (f 2).toNatClampNeg r) 5 (f 2).toNatClampNeg w) else g
abbrev MX9_target : Mi := (yX9_target, cX9_target, 4, some .int, { frames := 1, cells := 0, slots := 0, locals := 22 })
theorem nmX9_target : Nm yX9_target 3 := ⟨by decide +kernel, by decide +kernel, by decide +kernel⟩
theorem vcX9_target_0 {G : Gl} {o : Nat} {ad : Nat → Nat} {h0 : Hp} {Q : Option Value → Tf → Tg → Te → Prop} (f : Tf) (g : Tg) (e : Te) (m : Int32) (r0 : Int32) (w : Int32) (hv : (((inB m 0 40) = false → Q (some (.int (-3))) f g e) ∧ ((inB m 0 40) = true → (((inB r0 0 8) = false → Q (some (.int (-3))) f g e) ∧ ((inB r0 0 8) = true → (((inB w 0 3) = true → ((¬ (f 2) = 8 → vp_in (f 2) 8 ∧ vp_in (f 2) 8 ∧ vp_in (f 2) 8 ∧ Q (some (.int (((upd f 2 ((f 2) + 1)) 2) - 1))) (upd f 2 ((f 2) + 1)) (up2 (up2 (up2 g 3 (f 2).toNatClampNeg m) 4 (f 2).toNatClampNeg r0) 5 (f 2).toNatClampNeg w) e) ∧ ((f 2) = 8 → Q (some (.int (-5))) f g e))) ∧ ((inB w 0 3) = false → Q (some (.int (-3))) f g e))))))) :
    AWT G o ad h0 MX9_target Q f g e 0 [(0, .ref o), (1, .int m), (2, .int r0), (3, .int w)] [] := by
  refine AWT_iload_n (pc := 0) dX9_target_0 rfl 1 rfl ?_
  refine AWT_iconst (pc := 1) (v := 0) dX9_target_1 (by decide) ?_
  refine AWT_bipush (pc := 2) (v := 40) dX9_target_2 (by decide) ?_
  refine AWT_callS (M' := MX9_in) (pc := 4) [.int m, .int 0, .int 40] [] nmX9_in ⟨rfl, rfl⟩ (ML.o q1180) q1181 q82 q1182 dX9_target_4 rfl rfl (Nat.le_of_ble_eq_true rfl) ⟨Nat.le_of_ble_eq_true rfl, Nat.le_of_ble_eq_true rfl⟩ (mcX9_in f g e m 0 40 ) ?_
  rintro _ _ _ _ ⟨rfl, rfl, rfl, rfl⟩
  refine AWT_ifb_eq (pc := 7) (tgt := 29) dX9_target_7 (by decide) (fun c1 => ?_) (fun c1 => ?_)
  · have hv := hv.1 c1
    refine AWT_bipush (pc := 29) (v := (-3)) dX9_target_29 (by decide) ?_
    exact AWT_iret (pc := 31) rfl rfl dX9_target_31 hv
  · have hv := hv.2 c1
    refine AWT_iload_n (pc := 10) dX9_target_10 rfl 2 rfl ?_
    refine AWT_iconst (pc := 11) (v := 0) dX9_target_11 (by decide) ?_
    refine AWT_bipush (pc := 12) (v := 8) dX9_target_12 (by decide) ?_
    refine AWT_callS (M' := MX9_in) (pc := 14) [.int r0, .int 0, .int 8] [] nmX9_in ⟨rfl, rfl⟩ (ML.o q1180) q1181 q82 q1182 dX9_target_14 rfl rfl (Nat.le_of_ble_eq_true rfl) ⟨Nat.le_of_ble_eq_true rfl, Nat.le_of_ble_eq_true rfl⟩ (mcX9_in f g e r0 0 8 ) ?_
    rintro _ _ _ _ ⟨rfl, rfl, rfl, rfl⟩
    refine AWT_ifb_eq (pc := 17) (tgt := 29) dX9_target_17 (by decide) (fun c2 => ?_) (fun c2 => ?_)
    · have hv := hv.1 c2
      refine AWT_bipush (pc := 29) (v := (-3)) dX9_target_29 (by decide) ?_
      exact AWT_iret (pc := 31) rfl rfl dX9_target_31 hv
    · have hv := hv.2 c2
      refine AWT_iload_n (pc := 20) dX9_target_20 rfl 3 rfl ?_
      refine AWT_iconst (pc := 21) (v := 0) dX9_target_21 (by decide) ?_
      refine AWT_iconst (pc := 22) (v := 3) dX9_target_22 (by decide) ?_
      refine AWT_callS (M' := MX9_in) (pc := 23) [.int w, .int 0, .int 3] [] nmX9_in ⟨rfl, rfl⟩ (ML.o q1180) q1181 q82 q1182 dX9_target_23 rfl rfl (Nat.le_of_ble_eq_true rfl) ⟨Nat.le_of_ble_eq_true rfl, Nat.le_of_ble_eq_true rfl⟩ (mcX9_in f g e w 0 3 ) ?_
      rintro _ _ _ _ ⟨rfl, rfl, rfl, rfl⟩
      refine AWT_ifb_ne (pc := 26) (tgt := 32) dX9_target_26 (by decide) (fun c3 => ?_) (fun c3 => ?_)
      · have hv := hv.1 c3
        refine AWT_aload_n (pc := 32) dX9_target_32 rfl 0 rfl ?_
        refine AWT_getI (pc := 33) 2 (by decide) rfl (FL.o q1045) dX9_target_33 ?_
        refine AWT_bipush (pc := 36) (v := 8) dX9_target_36 (by decide) ?_
        refine AWT_icmp_ne (pc := 38) (tgt := 44) dX9_target_38 (by decide) (fun c4 => ?_) (fun c4 => ?_)
        · have hv := hv.1 c4
          refine AWT_aload_n (pc := 44) dX9_target_44 rfl 0 rfl ?_
          refine AWT_getA (pc := 45) 3 (by decide) rfl rfl (FL.o q1046) dX9_target_45 ?_
          refine AWT_aload_n (pc := 48) dX9_target_48 rfl 0 rfl ?_
          refine AWT_getI (pc := 49) 2 (by decide) rfl (FL.o q1045) dX9_target_49 ?_
          refine AWT_iload_n (pc := 52) dX9_target_52 rfl 1 rfl ?_
          refine AWT_iast (pc := 53) (k := 3) (n := 8) rfl dX9_target_53 hv.1 ?_
          have hv := hv.2
          refine AWT_aload_n (pc := 54) dX9_target_54 rfl 0 rfl ?_
          refine AWT_getA (pc := 55) 4 (by decide) rfl rfl (FL.o q1047) dX9_target_55 ?_
          refine AWT_aload_n (pc := 58) dX9_target_58 rfl 0 rfl ?_
          refine AWT_getI (pc := 59) 2 (by decide) rfl (FL.o q1045) dX9_target_59 ?_
          refine AWT_iload_n (pc := 62) dX9_target_62 rfl 2 rfl ?_
          refine AWT_iast (pc := 63) (k := 4) (n := 8) rfl dX9_target_63 hv.1 ?_
          have hv := hv.2
          refine AWT_aload_n (pc := 64) dX9_target_64 rfl 0 rfl ?_
          refine AWT_getA (pc := 65) 5 (by decide) rfl rfl (FL.o q1048) dX9_target_65 ?_
          refine AWT_aload_n (pc := 68) dX9_target_68 rfl 0 rfl ?_
          refine AWT_getI (pc := 69) 2 (by decide) rfl (FL.o q1045) dX9_target_69 ?_
          refine AWT_iload_n (pc := 72) dX9_target_72 rfl 3 rfl ?_
          refine AWT_iast (pc := 73) (k := 5) (n := 8) rfl dX9_target_73 hv.1 ?_
          have hv := hv.2
          refine AWT_aload_n (pc := 74) dX9_target_74 rfl 0 rfl ?_
          refine AWT_dup (pc := 75) dX9_target_75 rfl ?_
          refine AWT_getI (pc := 76) 2 (by decide) rfl (FL.o q1045) dX9_target_76 ?_
          refine AWT_iconst (pc := 79) (v := 1) dX9_target_79 (by decide) ?_
          refine AWT_iadd (pc := 80) dX9_target_80 ?_
          refine AWT_putI (pc := 81) 2 (by decide) rfl (FL.o q1045) rfl dX9_target_81 ?_
          refine AWT_aload_n (pc := 84) dX9_target_84 rfl 0 rfl ?_
          refine AWT_getI (pc := 85) 2 (by decide) rfl (FL.o q1045) dX9_target_85 ?_
          refine AWT_iconst (pc := 88) (v := 1) dX9_target_88 (by decide) ?_
          refine AWT_isub (pc := 89) dX9_target_89 ?_
          exact AWT_iret (pc := 90) rfl rfl dX9_target_90 hv
        · have hv := hv.2 c4
          refine AWT_bipush (pc := 41) (v := (-5)) dX9_target_41 (by decide) ?_
          exact AWT_iret (pc := 43) rfl rfl dX9_target_43 hv
      · have hv := hv.2 c3
        refine AWT_bipush (pc := 29) (v := (-3)) dX9_target_29 (by decide) ?_
        exact AWT_iret (pc := 31) rfl rfl dX9_target_31 hv
theorem mcX9_target {G : Gl} {o : Nat} {ad : Nat → Nat} (f : Tf) (g : Tg) (e : Te) (m : Int32) (r0 : Int32) (w : Int32) (h1 : MI f g) : MCT G o ad MX9_target [.ref o, .int m, .int r0, .int w] f g e (fun v0 f1 g1 e1 => v0 = some (.int (rTarget f m r0 w)) ∧ fTarget f m r0 w = f1 ∧ gTarget f g m r0 w = g1 ∧ e = e1) := by
  refine MCT.of ⟨rfl, rfl⟩ (by decide) (Nat.le_of_ble_eq_true rfl) rfl (fun h0 => vcX9_target_0 f g e m r0 w ?_)
  obtain ⟨-, -, ⟨t, ht, ht8, -⟩, -⟩ := h1
  refine ⟨fun c => by simp [rTarget, fTarget, gTarget, okTg, c], fun c => ⟨fun c2 => by simp [rTarget, fTarget, gTarget, okTg, c, c2], fun c2 => ⟨fun c3 => ?_, fun c3 => by simp [rTarget, fTarget, gTarget, okTg, c, c2, c3]⟩⟩⟩
  refine ⟨fun c4 => ?_, fun c4 => by simp [rTarget, fTarget, gTarget, okTg, c, c2, c3, c4]⟩
  have hin : vp_in (f 2) 8 := by
    rw [ht] at c4 ⊢
    exact vp_in_nI (by
      rcases Nat.lt_or_ge t 8 with z | z
      · exact z
      · exact absurd (by rw [show t = 8 by omega]; rfl) c4) (by decide)
  refine ⟨hin, hin, hin, ?_⟩
  simp [rTarget, fTarget, gTarget, okTg, c, c2, c3, c4, upd_s]
theorem tg_in {f : Tf} {t : Int32} {n : Nat} (hn : f 2 = nI n) (hn8 : n ≤ 8) (c : inB t 0 (f 2 - 1) = true) : vp_in t 8 := by
  rw [hn] at c
  obtain ⟨j, hj, rfl⟩ := inB_lo c (by omega)
  exact vp_in_nI (by omega) (by decide)
def rAir (f : Tf) (g : Tg) (t s : Int32) : Int32 := if inB t 0 (f 2 - 1) && inB s 0 (f 0 - 1) then (if visT f g t s then airT f g t s else -1) else -2
abbrev MX9_air : Mi := (yX9_air, cX9_air, 3, some .int, { frames := 2, cells := 0, slots := 0, locals := 45 })
theorem nmX9_air : Nm yX9_air 2 := ⟨by decide +kernel, by decide +kernel, by decide +kernel⟩
theorem vcX9_air_0 {G : Gl} {o : Nat} {ad : Nat → Nat} {h0 : Hp} {Q : Option Value → Tf → Tg → Te → Prop} (f : Tf) (g : Tg) (e : Te) (t : Int32) (s : Int32) (hv : (((inB t 0 (f 2 - 1)) = false → Q (some (.int (-2))) f g e) ∧ ((inB t 0 (f 2 - 1)) = true → (((inB s 0 (f 0 - 1)) = true → (vp_in t 8) ∧ (((visT f g t s) = false → Q (some (.int (-1))) f g e) ∧ ((visT f g t s) = true → (vp_in t 8) ∧ Q (some (.int (airT f g t s))) f g e))) ∧ ((inB s 0 (f 0 - 1)) = false → Q (some (.int (-2))) f g e))))) :
    AWT G o ad h0 MX9_air Q f g e 0 [(0, .ref o), (1, .int t), (2, .int s)] [] := by
  refine AWT_aload_n (pc := 0) dX9_air_0 rfl 0 rfl ?_
  refine AWT_iload_n (pc := 1) dX9_air_1 rfl 1 rfl ?_
  refine AWT_callV (M' := MX9_isTarget) (pc := 2) [.int t] [] rfl nmX9_isTarget ⟨rfl, rfl⟩ (ML.o q1191) q1193 qs38 q82 q1194 dX9_air_2 rfl rfl (Nat.le_of_ble_eq_true rfl) ⟨Nat.le_of_ble_eq_true rfl, Nat.le_of_ble_eq_true rfl⟩ (mcX9_isTarget f g e t ) ?_
  rintro _ _ _ _ ⟨rfl, rfl, rfl, rfl⟩
  refine AWT_ifb_eq (pc := 5) (tgt := 16) dX9_air_5 (by decide) (fun c1 => ?_) (fun c1 => ?_)
  · have hv := hv.1 c1
    refine AWT_bipush (pc := 16) (v := (-2)) dX9_air_16 (by decide) ?_
    exact AWT_iret (pc := 18) rfl rfl dX9_air_18 hv
  · have hv := hv.2 c1
    refine AWT_aload_n (pc := 8) dX9_air_8 rfl 0 rfl ?_
    refine AWT_iload_n (pc := 9) dX9_air_9 rfl 2 rfl ?_
    refine AWT_callV (M' := MX9_isSlot) (pc := 10) [.int s] [] rfl nmX9_isSlot ⟨rfl, rfl⟩ (ML.o q1195) q1197 qs39 q82 q1198 dX9_air_10 rfl rfl (Nat.le_of_ble_eq_true rfl) ⟨Nat.le_of_ble_eq_true rfl, Nat.le_of_ble_eq_true rfl⟩ (mcX9_isSlot f g e s ) ?_
    rintro _ _ _ _ ⟨rfl, rfl, rfl, rfl⟩
    refine AWT_ifb_ne (pc := 13) (tgt := 19) dX9_air_13 (by decide) (fun c2 => ?_) (fun c2 => ?_)
    · have hv := hv.1 c2
      refine AWT_aload_n (pc := 19) dX9_air_19 rfl 0 rfl ?_
      refine AWT_iload_n (pc := 20) dX9_air_20 rfl 1 rfl ?_
      refine AWT_iload_n (pc := 21) dX9_air_21 rfl 2 rfl ?_
      have p3 := hv.1
      have hv := hv.2
      refine AWT_callV (M' := MX9_isVisible) (pc := 22) [.int t, .int s] [] rfl nmX9_isVisible ⟨rfl, rfl⟩ (ML.o q1199) q1201 qs40 q82 q1202 dX9_air_22 rfl rfl (Nat.le_of_ble_eq_true rfl) ⟨Nat.le_of_ble_eq_true rfl, Nat.le_of_ble_eq_true rfl⟩ (mcX9_isVisible f g e t s p3) ?_
      rintro _ _ _ _ ⟨rfl, rfl, rfl, rfl⟩
      refine AWT_ifb_eq (pc := 25) (tgt := 37) dX9_air_25 (by decide) (fun c4 => ?_) (fun c4 => ?_)
      · have hv := hv.1 c4
        refine AWT_iconst (pc := 37) (v := (-1)) dX9_air_37 (by decide) ?_
        exact AWT_iret (pc := 38) rfl rfl dX9_air_38 hv
      · have hv := hv.2 c4
        refine AWT_aload_n (pc := 28) dX9_air_28 rfl 0 rfl ?_
        refine AWT_iload_n (pc := 29) dX9_air_29 rfl 1 rfl ?_
        refine AWT_iload_n (pc := 30) dX9_air_30 rfl 2 rfl ?_
        have p5 := hv.1
        have hv := hv.2
        refine AWT_callV (M' := MX9_airOf) (pc := 31) [.int t, .int s] [] rfl nmX9_airOf ⟨rfl, rfl⟩ (ML.o q1203) q1205 qs41 q82 q1206 dX9_air_31 rfl rfl (Nat.le_of_ble_eq_true rfl) ⟨Nat.le_of_ble_eq_true rfl, Nat.le_of_ble_eq_true rfl⟩ (mcX9_airOf f g e t s p5) ?_
        rintro _ _ _ _ ⟨rfl, rfl, rfl, rfl⟩
        refine AWT_goto (pc := 34) (tgt := 38) dX9_air_34 (by decide) ?_
        exact AWT_iret (pc := 38) rfl rfl dX9_air_38 hv
    · have hv := hv.2 c2
      refine AWT_bipush (pc := 16) (v := (-2)) dX9_air_16 (by decide) ?_
      exact AWT_iret (pc := 18) rfl rfl dX9_air_18 hv
theorem mcX9_air {G : Gl} {o : Nat} {ad : Nat → Nat} (f : Tf) (g : Tg) (e : Te) (t : Int32) (s : Int32) (h1 : MI f g) : MCT G o ad MX9_air [.ref o, .int t, .int s] f g e (fun v0 f1 g1 e1 => v0 = some (.int (rAir f g t s)) ∧ f = f1 ∧ g = g1 ∧ e = e1) := by
  refine MCT.of ⟨rfl, rfl⟩ (by decide) (Nat.le_of_ble_eq_true rfl) rfl (fun h0 => vcX9_air_0 f g e t s ?_)
  obtain ⟨-, -, ⟨n, hn, hn8, -⟩, -⟩ := h1
  refine ⟨fun c => by simp [rAir, c], fun c => ⟨fun c2 => ?_, fun c2 => by simp [rAir, c, c2]⟩⟩
  have hin : vp_in t 8 := tg_in hn hn8 c
  exact ⟨hin, fun c3 => by simp [rAir, c, c2, c3], fun c3 => ⟨hin, by simp [rAir, c, c2, c3]⟩⟩
def okMoon (f : Tf) (w a b : Int32) : Bool := inB w 0 3 && (inB a 0 (f 0 - 1) && (inB b 0 (f 0 - 1) && decide (a ≤ b)))
def rMoon (f : Tf) (w a b : Int32) : Int32 := if okMoon f w a b then 1 else -3
def fMoon (f : Tf) (w a b : Int32) : Tf := if okMoon f w a b then upd (upd (upd f 6 w) 7 a) 8 b else f
abbrev MX9_moon : Mi := (yX9_moon, cX9_moon, 4, some .int, { frames := 2, cells := 0, slots := 0, locals := 43 })
theorem nmX9_moon : Nm yX9_moon 3 := ⟨by decide +kernel, by decide +kernel, by decide +kernel⟩
theorem vcX9_moon_0 {G : Gl} {o : Nat} {ad : Nat → Nat} {h0 : Hp} {Q : Option Value → Tf → Tg → Te → Prop} (f : Tf) (g : Tg) (e : Te) (w : Int32) (a : Int32) (b : Int32) (hv : (((inB w 0 3) = false → Q (some (.int (-3))) f g e) ∧ ((inB w 0 3) = true → (((inB a 0 (f 0 - 1)) = false → Q (some (.int (-3))) f g e) ∧ ((inB a 0 (f 0 - 1)) = true → (((inB b 0 (f 0 - 1)) = false → Q (some (.int (-3))) f g e) ∧ ((inB b 0 (f 0 - 1)) = true → ((a ≤ b → Q (some (.int 1)) (upd (upd (upd f 6 w) 7 a) 8 b) g e) ∧ (¬ a ≤ b → Q (some (.int (-3))) f g e))))))))) :
    AWT G o ad h0 MX9_moon Q f g e 0 [(0, .ref o), (1, .int w), (2, .int a), (3, .int b)] [] := by
  refine AWT_iload_n (pc := 0) dX9_moon_0 rfl 1 rfl ?_
  refine AWT_iconst (pc := 1) (v := 0) dX9_moon_1 (by decide) ?_
  refine AWT_iconst (pc := 2) (v := 3) dX9_moon_2 (by decide) ?_
  refine AWT_callS (M' := MX9_in) (pc := 3) [.int w, .int 0, .int 3] [] nmX9_in ⟨rfl, rfl⟩ (ML.o q1180) q1181 q82 q1182 dX9_moon_3 rfl rfl (Nat.le_of_ble_eq_true rfl) ⟨Nat.le_of_ble_eq_true rfl, Nat.le_of_ble_eq_true rfl⟩ (mcX9_in f g e w 0 3 ) ?_
  rintro _ _ _ _ ⟨rfl, rfl, rfl, rfl⟩
  refine AWT_ifb_eq (pc := 6) (tgt := 30) dX9_moon_6 (by decide) (fun c1 => ?_) (fun c1 => ?_)
  · have hv := hv.1 c1
    refine AWT_bipush (pc := 30) (v := (-3)) dX9_moon_30 (by decide) ?_
    exact AWT_iret (pc := 32) rfl rfl dX9_moon_32 hv
  · have hv := hv.2 c1
    refine AWT_aload_n (pc := 9) dX9_moon_9 rfl 0 rfl ?_
    refine AWT_iload_n (pc := 10) dX9_moon_10 rfl 2 rfl ?_
    refine AWT_callV (M' := MX9_isSlot) (pc := 11) [.int a] [] rfl nmX9_isSlot ⟨rfl, rfl⟩ (ML.o q1195) q1197 qs39 q82 q1198 dX9_moon_11 rfl rfl (Nat.le_of_ble_eq_true rfl) ⟨Nat.le_of_ble_eq_true rfl, Nat.le_of_ble_eq_true rfl⟩ (mcX9_isSlot f g e a ) ?_
    rintro _ _ _ _ ⟨rfl, rfl, rfl, rfl⟩
    refine AWT_ifb_eq (pc := 14) (tgt := 30) dX9_moon_14 (by decide) (fun c2 => ?_) (fun c2 => ?_)
    · have hv := hv.1 c2
      refine AWT_bipush (pc := 30) (v := (-3)) dX9_moon_30 (by decide) ?_
      exact AWT_iret (pc := 32) rfl rfl dX9_moon_32 hv
    · have hv := hv.2 c2
      refine AWT_aload_n (pc := 17) dX9_moon_17 rfl 0 rfl ?_
      refine AWT_iload_n (pc := 18) dX9_moon_18 rfl 3 rfl ?_
      refine AWT_callV (M' := MX9_isSlot) (pc := 19) [.int b] [] rfl nmX9_isSlot ⟨rfl, rfl⟩ (ML.o q1195) q1197 qs39 q82 q1198 dX9_moon_19 rfl rfl (Nat.le_of_ble_eq_true rfl) ⟨Nat.le_of_ble_eq_true rfl, Nat.le_of_ble_eq_true rfl⟩ (mcX9_isSlot f g e b ) ?_
      rintro _ _ _ _ ⟨rfl, rfl, rfl, rfl⟩
      refine AWT_ifb_eq (pc := 22) (tgt := 30) dX9_moon_22 (by decide) (fun c3 => ?_) (fun c3 => ?_)
      · have hv := hv.1 c3
        refine AWT_bipush (pc := 30) (v := (-3)) dX9_moon_30 (by decide) ?_
        exact AWT_iret (pc := 32) rfl rfl dX9_moon_32 hv
      · have hv := hv.2 c3
        refine AWT_iload_n (pc := 25) dX9_moon_25 rfl 2 rfl ?_
        refine AWT_iload_n (pc := 26) dX9_moon_26 rfl 3 rfl ?_
        refine AWT_icmp_le (pc := 27) (tgt := 33) dX9_moon_27 (by decide) (fun c4 => ?_) (fun c4 => ?_)
        · have hv := hv.1 c4
          refine AWT_aload_n (pc := 33) dX9_moon_33 rfl 0 rfl ?_
          refine AWT_iload_n (pc := 34) dX9_moon_34 rfl 1 rfl ?_
          refine AWT_putI (pc := 35) 6 (by decide) rfl (FL.o q1049) rfl dX9_moon_35 ?_
          refine AWT_aload_n (pc := 38) dX9_moon_38 rfl 0 rfl ?_
          refine AWT_iload_n (pc := 39) dX9_moon_39 rfl 2 rfl ?_
          refine AWT_putI (pc := 40) 7 (by decide) rfl (FL.o q1050) rfl dX9_moon_40 ?_
          refine AWT_aload_n (pc := 43) dX9_moon_43 rfl 0 rfl ?_
          refine AWT_iload_n (pc := 44) dX9_moon_44 rfl 3 rfl ?_
          refine AWT_putI (pc := 45) 8 (by decide) rfl (FL.o q1051) rfl dX9_moon_45 ?_
          refine AWT_iconst (pc := 48) (v := 1) dX9_moon_48 (by decide) ?_
          exact AWT_iret (pc := 49) rfl rfl dX9_moon_49 hv
        · have hv := hv.2 c4
          refine AWT_bipush (pc := 30) (v := (-3)) dX9_moon_30 (by decide) ?_
          exact AWT_iret (pc := 32) rfl rfl dX9_moon_32 hv
theorem mcX9_moon {G : Gl} {o : Nat} {ad : Nat → Nat} (f : Tf) (g : Tg) (e : Te) (w : Int32) (a : Int32) (b : Int32)  : MCT G o ad MX9_moon [.ref o, .int w, .int a, .int b] f g e (fun v0 f1 g1 e1 => v0 = some (.int (rMoon f w a b)) ∧ fMoon f w a b = f1 ∧ g = g1 ∧ e = e1) := by
  refine MCT.of ⟨rfl, rfl⟩ (by decide) (Nat.le_of_ble_eq_true rfl) rfl (fun h0 => vcX9_moon_0 f g e w a b ?_)
  refine ⟨fun c => by simp [rMoon, fMoon, okMoon, c], fun c => ⟨fun c2 => by simp [rMoon, fMoon, okMoon, c, c2], fun c2 => ⟨fun c3 => by simp [rMoon, fMoon, okMoon, c, c2, c3], fun c3 => ⟨fun c4 => by simp [rMoon, fMoon, okMoon, c, c2, c3, c4], fun c4 => by simp [rMoon, fMoon, okMoon, c, c2, c3, c4]⟩⟩⟩⟩
def okSee (f : Tf) (k s : Int32) : Bool := inB k 0 (1 + f 10) && inB s 0 (f 0 - 1)
def rSeeing (f : Tf) (g : Tg) (k s v : Int32) : Int32 := if okSee f k s then (if inB v 0 4 then g 9 (12 * k + s).toNatClampNeg else -3) else -2
def gSeeing (f : Tf) (g : Tg) (k s v : Int32) : Tg := if okSee f k s && inB v 0 4 then up2 g 9 (12 * k + s).toNatClampNeg v else g
abbrev MX9_seeing : Mi := (yX9_seeing, cX9_seeing, 5, some .int, { frames := 2, cells := 0, slots := 0, locals := 43 })
theorem nmX9_seeing : Nm yX9_seeing 3 := ⟨by decide +kernel, by decide +kernel, by decide +kernel⟩
theorem vcX9_seeing_0 {G : Gl} {o : Nat} {ad : Nat → Nat} {h0 : Hp} {Q : Option Value → Tf → Tg → Te → Prop} (f : Tf) (g : Tg) (e : Te) (k : Int32) (s : Int32) (v : Int32) (hv : (((inB k 0 (1 + f 10)) = false → Q (some (.int (-2))) f g e) ∧ ((inB k 0 (1 + f 10)) = true → (((inB s 0 (f 0 - 1)) = true → (((inB v 0 4) = true → vp_in ((12 * k) + s) 72 ∧ vp_in ((12 * k) + s) 72 ∧ Q (some (.int (g 9 ((12 * k) + s).toNatClampNeg))) f (up2 g 9 ((12 * k) + s).toNatClampNeg v) e) ∧ ((inB v 0 4) = false → Q (some (.int (-3))) f g e))) ∧ ((inB s 0 (f 0 - 1)) = false → Q (some (.int (-2))) f g e))))) :
    AWT G o ad h0 MX9_seeing Q f g e 0 [(0, .ref o), (1, .int k), (2, .int s), (3, .int v)] [] := by
  refine AWT_aload_n (pc := 0) dX9_seeing_0 rfl 0 rfl ?_
  refine AWT_iload_n (pc := 1) dX9_seeing_1 rfl 1 rfl ?_
  refine AWT_callV (M' := MX9_isSky) (pc := 2) [.int k] [] rfl nmX9_isSky ⟨rfl, rfl⟩ (ML.o q1215) q1217 qs42 q82 q1218 dX9_seeing_2 rfl rfl (Nat.le_of_ble_eq_true rfl) ⟨Nat.le_of_ble_eq_true rfl, Nat.le_of_ble_eq_true rfl⟩ (mcX9_isSky f g e k ) ?_
  rintro _ _ _ _ ⟨rfl, rfl, rfl, rfl⟩
  refine AWT_ifb_eq (pc := 5) (tgt := 16) dX9_seeing_5 (by decide) (fun c1 => ?_) (fun c1 => ?_)
  · have hv := hv.1 c1
    refine AWT_bipush (pc := 16) (v := (-2)) dX9_seeing_16 (by decide) ?_
    exact AWT_iret (pc := 18) rfl rfl dX9_seeing_18 hv
  · have hv := hv.2 c1
    refine AWT_aload_n (pc := 8) dX9_seeing_8 rfl 0 rfl ?_
    refine AWT_iload_n (pc := 9) dX9_seeing_9 rfl 2 rfl ?_
    refine AWT_callV (M' := MX9_isSlot) (pc := 10) [.int s] [] rfl nmX9_isSlot ⟨rfl, rfl⟩ (ML.o q1195) q1197 qs39 q82 q1198 dX9_seeing_10 rfl rfl (Nat.le_of_ble_eq_true rfl) ⟨Nat.le_of_ble_eq_true rfl, Nat.le_of_ble_eq_true rfl⟩ (mcX9_isSlot f g e s ) ?_
    rintro _ _ _ _ ⟨rfl, rfl, rfl, rfl⟩
    refine AWT_ifb_ne (pc := 13) (tgt := 19) dX9_seeing_13 (by decide) (fun c2 => ?_) (fun c2 => ?_)
    · have hv := hv.1 c2
      refine AWT_iload_n (pc := 19) dX9_seeing_19 rfl 3 rfl ?_
      refine AWT_iconst (pc := 20) (v := 0) dX9_seeing_20 (by decide) ?_
      refine AWT_iconst (pc := 21) (v := 4) dX9_seeing_21 (by decide) ?_
      refine AWT_callS (M' := MX9_in) (pc := 22) [.int v, .int 0, .int 4] [] nmX9_in ⟨rfl, rfl⟩ (ML.o q1180) q1181 q82 q1182 dX9_seeing_22 rfl rfl (Nat.le_of_ble_eq_true rfl) ⟨Nat.le_of_ble_eq_true rfl, Nat.le_of_ble_eq_true rfl⟩ (mcX9_in f g e v 0 4 ) ?_
      rintro _ _ _ _ ⟨rfl, rfl, rfl, rfl⟩
      refine AWT_ifb_ne (pc := 25) (tgt := 31) dX9_seeing_25 (by decide) (fun c3 => ?_) (fun c3 => ?_)
      · have hv := hv.1 c3
        refine AWT_aload_n (pc := 31) dX9_seeing_31 rfl 0 rfl ?_
        refine AWT_getA (pc := 32) 9 (by decide) rfl rfl (FL.o q1052) dX9_seeing_32 ?_
        refine AWT_bipush (pc := 35) (v := 12) dX9_seeing_35 (by decide) ?_
        refine AWT_iload_n (pc := 37) dX9_seeing_37 rfl 1 rfl ?_
        refine AWT_imul (pc := 38) dX9_seeing_38 ?_
        refine AWT_iload_n (pc := 39) dX9_seeing_39 rfl 2 rfl ?_
        refine AWT_iadd (pc := 40) dX9_seeing_40 ?_
        refine AWT_iald (pc := 41) (k := 9) (n := 72) rfl dX9_seeing_41 hv.1 ?_
        have hv := hv.2
        refine AWT_istore (pc := 42) (lv' := [(4, .int (g 9 ((12 * k) + s).toNatClampNeg)), (0, .ref o), (1, .int k), (2, .int s), (3, .int v)]) dX9_seeing_42 (by decide) rfl ?_
        refine AWT_aload_n (pc := 44) dX9_seeing_44 rfl 1 rfl ?_
        refine AWT_getA (pc := 45) 9 (by decide) rfl rfl (FL.o q1052) dX9_seeing_45 ?_
        refine AWT_bipush (pc := 48) (v := 12) dX9_seeing_48 (by decide) ?_
        refine AWT_iload_n (pc := 50) dX9_seeing_50 rfl 2 rfl ?_
        refine AWT_imul (pc := 51) dX9_seeing_51 ?_
        refine AWT_iload_n (pc := 52) dX9_seeing_52 rfl 3 rfl ?_
        refine AWT_iadd (pc := 53) dX9_seeing_53 ?_
        refine AWT_iload_n (pc := 54) dX9_seeing_54 rfl 4 rfl ?_
        refine AWT_iast (pc := 55) (k := 9) (n := 72) rfl dX9_seeing_55 hv.1 ?_
        have hv := hv.2
        refine AWT_iload (pc := 56) dX9_seeing_56 0 rfl ?_
        exact AWT_iret (pc := 58) rfl rfl dX9_seeing_58 hv
      · have hv := hv.2 c3
        refine AWT_bipush (pc := 28) (v := (-3)) dX9_seeing_28 (by decide) ?_
        exact AWT_iret (pc := 30) rfl rfl dX9_seeing_30 hv
    · have hv := hv.2 c2
      refine AWT_bipush (pc := 16) (v := (-2)) dX9_seeing_16 (by decide) ?_
      exact AWT_iret (pc := 18) rfl rfl dX9_seeing_18 hv
theorem mcX9_seeing {G : Gl} {o : Nat} {ad : Nat → Nat} (f : Tf) (g : Tg) (e : Te) (k : Int32) (s : Int32) (v : Int32) (h1 : MI f g) : MCT G o ad MX9_seeing [.ref o, .int k, .int s, .int v] f g e (fun v0 f1 g1 e1 => v0 = some (.int (rSeeing f g k s v)) ∧ f = f1 ∧ gSeeing f g k s v = g1 ∧ e = e1) := by
  refine MCT.of ⟨rfl, rfl⟩ (by decide) (Nat.le_of_ble_eq_true rfl) rfl (fun h0 => vcX9_seeing_0 f g e k s v ?_)
  refine ⟨fun c => by simp [rSeeing, gSeeing, okSee, c], fun c => ⟨fun c2 => ⟨fun c3 => ?_, fun c3 => by simp [rSeeing, gSeeing, okSee, c, c2, c3]⟩, fun c2 => by simp [rSeeing, gSeeing, okSee, c, c2]⟩⟩
  have hin : vp_in (12 * k + s) 72 := by
    obtain ⟨a, w, rfl, ha, -⟩ := h1.sky c
    obtain ⟨b, n, rfl, hb, -⟩ := h1.slot c2
    rw [lm 12 a, nI_add]
    exact vp_in_nI (by omega) (by decide)
  exact ⟨hin, hin, by simp [rSeeing, gSeeing, okSee, c, c2, c3]⟩
def cpSky (g : Tg) (w j : Nat) : Tg := fun k i => if k = 9 ∧ 24 + 12 * w ≤ i ∧ i < 24 + 12 * w + j then g 9 (i - (24 + 12 * w)) else g k i
theorem cpSky_0 (g : Tg) (w : Nat) : cpSky g w 0 = g := by
  funext k i
  unfold cpSky
  rw [if_neg (by omega)]
theorem cpSky_s (g : Tg) (w j : Nat) (hj : j < 12) : up2 (cpSky g w j) 9 (24 + 12 * w + j) (cpSky g w j 9 j) = cpSky g w (j + 1) := by
  have e : cpSky g w j 9 j = g 9 j := by
    unfold cpSky
    rw [if_neg (by omega)]
  rw [e]
  funext k i
  unfold up2 cpSky
  by_cases h : k = 9
  · subst h
    by_cases h2 : i = 24 + 12 * w + j
    · subst h2
      simp
    · simp only [h2, true_and, and_false, if_false]
      by_cases h3 : 24 + 12 * w ≤ i ∧ i < 24 + 12 * w + j
      · rw [if_pos h3, if_pos (by omega)]
      · rw [if_neg h3, if_neg (by omega)]
  · simp [h]
def rWorld (f : Tf) (w : Int32) : Int32 := if inB w 1 9 then (if f 10 = 4 then -5 else f 10) else -3
def fWorld (f : Tf) (w : Int32) : Tf := if inB w 1 9 then (if f 10 = 4 then f else upd f 10 (f 10 + 1)) else f
def gWorld (f : Tf) (g : Tg) (w : Int32) : Tg := if inB w 1 9 then (if f 10 = 4 then g else up2 (cpSky g (f 10).toNatClampNeg 12) 11 (f 10).toNatClampNeg w) else g
abbrev MX9_world : Mi := (yX9_world, cX9_world, 3, some .int, { frames := 1, cells := 0, slots := 0, locals := 22 })
theorem nmX9_world : Nm yX9_world 1 := ⟨by decide +kernel, by decide +kernel, by decide +kernel⟩
theorem vcX9_world_0 {G : Gl} {o : Nat} {ad : Nat → Nat} {h0 : Hp} {Q : Option Value → Tf → Tg → Te → Prop} (f : Tf) (g : Tg) (e : Te) (w : Int32) (hv : (((inB w 1 9) = true → ((¬ (f 10) = 4 → AWT G o ad h0 MX9_world Q f g e 26 [(0, .ref o), (1, .int w), (2, .int 0)] []) ∧ ((f 10) = 4 → Q (some (.int (-5))) f g e))) ∧ ((inB w 1 9) = false → Q (some (.int (-3))) f g e))) :
    AWT G o ad h0 MX9_world Q f g e 0 [(0, .ref o), (1, .int w)] [] := by
  refine AWT_iload_n (pc := 0) dX9_world_0 rfl 1 rfl ?_
  refine AWT_iconst (pc := 1) (v := 1) dX9_world_1 (by decide) ?_
  refine AWT_bipush (pc := 2) (v := 9) dX9_world_2 (by decide) ?_
  refine AWT_callS (M' := MX9_in) (pc := 4) [.int w, .int 1, .int 9] [] nmX9_in ⟨rfl, rfl⟩ (ML.o q1180) q1181 q82 q1182 dX9_world_4 rfl rfl (Nat.le_of_ble_eq_true rfl) ⟨Nat.le_of_ble_eq_true rfl, Nat.le_of_ble_eq_true rfl⟩ (mcX9_in f g e w 1 9 ) ?_
  rintro _ _ _ _ ⟨rfl, rfl, rfl, rfl⟩
  refine AWT_ifb_ne (pc := 7) (tgt := 13) dX9_world_7 (by decide) (fun c1 => ?_) (fun c1 => ?_)
  · have hv := hv.1 c1
    refine AWT_aload_n (pc := 13) dX9_world_13 rfl 0 rfl ?_
    refine AWT_getI (pc := 14) 10 (by decide) rfl (FL.o q1053) dX9_world_14 ?_
    refine AWT_iconst (pc := 17) (v := 4) dX9_world_17 (by decide) ?_
    refine AWT_icmp_ne (pc := 18) (tgt := 24) dX9_world_18 (by decide) (fun c2 => ?_) (fun c2 => ?_)
    · have hv := hv.1 c2
      refine AWT_iconst (pc := 24) (v := 0) dX9_world_24 (by decide) ?_
      refine AWT_istore_n (pc := 25) (lv' := [(2, .int 0), (0, .ref o), (1, .int w)]) dX9_world_25 rfl (by decide) rfl ?_
      refine AWT_lv (lv' := [(0, .ref o), (1, .int w), (2, .int 0)]) [1, 2, 0] rfl ?_
      exact hv
    · have hv := hv.2 c2
      refine AWT_bipush (pc := 21) (v := (-5)) dX9_world_21 (by decide) ?_
      exact AWT_iret (pc := 23) rfl rfl dX9_world_23 hv
  · have hv := hv.2 c1
    refine AWT_bipush (pc := 10) (v := (-3)) dX9_world_10 (by decide) ?_
    exact AWT_iret (pc := 12) rfl rfl dX9_world_12 hv
theorem vcX9_world_26 {G : Gl} {o : Nat} {ad : Nat → Nat} {h0 : Hp} {Q : Option Value → Tf → Tg → Te → Prop} (f : Tf) (g : Tg) (e : Te) (w : Int32) (s : Int32) (hv : ((12 ≤ s → vp_in (f 10) 4 ∧ Q (some (.int (((upd f 10 ((f 10) + 1)) 10) - 1))) (upd f 10 ((f 10) + 1)) (up2 g 11 (f 10).toNatClampNeg w) e) ∧ (¬ 12 ≤ s → vp_in s 72 ∧ vp_in ((24 + (12 * (f 10))) + s) 72 ∧ AWT G o ad h0 MX9_world Q f (up2 g 9 ((24 + (12 * (f 10))) + s).toNatClampNeg (g 9 s.toNatClampNeg)) e 26 [(0, .ref o), (1, .int w), (2, .int (s + 1))] []))) :
    AWT G o ad h0 MX9_world Q f g e 26 [(0, .ref o), (1, .int w), (2, .int s)] [] := by
  refine AWT_iload_n (pc := 26) dX9_world_26 rfl 2 rfl ?_
  refine AWT_bipush (pc := 27) (v := 12) dX9_world_27 (by decide) ?_
  refine AWT_icmp_ge (pc := 29) (tgt := 61) dX9_world_29 (by decide) (fun c1 => ?_) (fun c1 => ?_)
  · have hv := hv.1 c1
    refine AWT_aload_n (pc := 61) dX9_world_61 rfl 0 rfl ?_
    refine AWT_getA (pc := 62) 11 (by decide) rfl rfl (FL.o q1054) dX9_world_62 ?_
    refine AWT_aload_n (pc := 65) dX9_world_65 rfl 0 rfl ?_
    refine AWT_getI (pc := 66) 10 (by decide) rfl (FL.o q1053) dX9_world_66 ?_
    refine AWT_iload_n (pc := 69) dX9_world_69 rfl 1 rfl ?_
    refine AWT_iast (pc := 70) (k := 11) (n := 4) rfl dX9_world_70 hv.1 ?_
    have hv := hv.2
    refine AWT_aload_n (pc := 71) dX9_world_71 rfl 0 rfl ?_
    refine AWT_dup (pc := 72) dX9_world_72 rfl ?_
    refine AWT_getI (pc := 73) 10 (by decide) rfl (FL.o q1053) dX9_world_73 ?_
    refine AWT_iconst (pc := 76) (v := 1) dX9_world_76 (by decide) ?_
    refine AWT_iadd (pc := 77) dX9_world_77 ?_
    refine AWT_putI (pc := 78) 10 (by decide) rfl (FL.o q1053) rfl dX9_world_78 ?_
    refine AWT_aload_n (pc := 81) dX9_world_81 rfl 0 rfl ?_
    refine AWT_getI (pc := 82) 10 (by decide) rfl (FL.o q1053) dX9_world_82 ?_
    refine AWT_iconst (pc := 85) (v := 1) dX9_world_85 (by decide) ?_
    refine AWT_isub (pc := 86) dX9_world_86 ?_
    exact AWT_iret (pc := 87) rfl rfl dX9_world_87 hv
  · have hv := hv.2 c1
    refine AWT_aload_n (pc := 32) dX9_world_32 rfl 0 rfl ?_
    refine AWT_getA (pc := 33) 9 (by decide) rfl rfl (FL.o q1052) dX9_world_33 ?_
    refine AWT_bipush (pc := 36) (v := 24) dX9_world_36 (by decide) ?_
    refine AWT_bipush (pc := 38) (v := 12) dX9_world_38 (by decide) ?_
    refine AWT_aload_n (pc := 40) dX9_world_40 rfl 0 rfl ?_
    refine AWT_getI (pc := 41) 10 (by decide) rfl (FL.o q1053) dX9_world_41 ?_
    refine AWT_imul (pc := 44) dX9_world_44 ?_
    refine AWT_iadd (pc := 45) dX9_world_45 ?_
    refine AWT_iload_n (pc := 46) dX9_world_46 rfl 2 rfl ?_
    refine AWT_iadd (pc := 47) dX9_world_47 ?_
    refine AWT_aload_n (pc := 48) dX9_world_48 rfl 0 rfl ?_
    refine AWT_getA (pc := 49) 9 (by decide) rfl rfl (FL.o q1052) dX9_world_49 ?_
    refine AWT_iload_n (pc := 52) dX9_world_52 rfl 2 rfl ?_
    refine AWT_iald (pc := 53) (k := 9) (n := 72) rfl dX9_world_53 hv.1 ?_
    have hv := hv.2
    refine AWT_iast (pc := 54) (k := 9) (n := 72) rfl dX9_world_54 hv.1 ?_
    have hv := hv.2
    refine AWT_iinc (pc := 55) (v := s + 1) (lv' := [(2, .int (s + 1)), (0, .ref o), (1, .int w)]) dX9_world_55 2 rfl rfl (by decide) rfl ?_
    refine AWT_goto (pc := 58) (tgt := 26) dX9_world_58 (by decide) ?_
    refine AWT_lv (lv' := [(0, .ref o), (1, .int w), (2, .int (s + 1))]) [1, 2, 0] rfl ?_
    exact hv
theorem mcX9_world {G : Gl} {o : Nat} {ad : Nat → Nat} (f : Tf) (g : Tg) (e : Te) (w : Int32) (h1 : MI f g) : MCT G o ad MX9_world [.ref o, .int w] f g e (fun v0 f1 g1 e1 => v0 = some (.int (rWorld f w)) ∧ fWorld f w = f1 ∧ gWorld f g w = g1 ∧ e = e1) := by
  refine MCT.of ⟨rfl, rfl⟩ (by decide) (Nat.le_of_ble_eq_true rfl) rfl (fun h0 => vcX9_world_0 f g e w ?_)
  refine ⟨fun c => ⟨fun c2 => ?_, fun c2 => by simp [rWorld, fWorld, gWorld, c, c2]⟩, fun c => by simp [rWorld, fWorld, gWorld, c]⟩
  obtain ⟨-, -, -, ⟨n, hn, hn4, -⟩, -⟩ := h1
  have hn3 : n < 4 := by
    rcases Nat.lt_or_ge n 4 with z | z
    · exact z
    · exact absurd (by rw [hn, show n = 4 by omega]; rfl) c2
  have hcl : (f 10).toNatClampNeg = n := by rw [hn]; exact nI_clamp (by omega)
  rw [← cpSky_0 g n]
  refine loopUp (A := fun j => AWT G o ad h0 MX9_world _ f (cpSky g n j) e 26 [(0, .ref o), (1, .int w), (2, .int (nI j))] []) 12 ?_ ?_ 0 (by omega)
  · refine vcX9_world_26 _ _ e _ _ (br_t (by decide) ⟨by rw [hn]; exact vp_in_nI hn3 (by decide), ?_⟩)
    simp [rWorld, fWorld, gWorld, c, c2, upd_s, hcl, cpSky_0]
  · intro j hj ih
    have e1 : (24 + (12 * (f 10))) + nI j = nI (24 + 12 * n + j) := by rw [hn, lm 12 n, la 24 (12 * n), nI_add]
    refine vcX9_world_26 _ _ e _ _ (pk_le 12 j (fun z => by omega) (fun _ => ⟨pk_in j 72 (by omega), by rw [e1]; exact vp_in_nI (by omega) (by decide), ?_⟩))
    rw [e1, nc j, nc (24 + 12 * n + j), cpSky_s _ _ _ hj, nI_1]
    exact ih
abbrev MX9_unworld : Mi := (yX9_unworld, cX9_unworld, 2, some .int, { frames := 0, cells := 0, slots := 0, locals := 0 })
theorem nmX9_unworld : Nm yX9_unworld 0 := ⟨by decide +kernel, by decide +kernel, by decide +kernel⟩
theorem vcX9_unworld_0 {G : Gl} {o : Nat} {ad : Nat → Nat} {h0 : Hp} {Q : Option Value → Tf → Tg → Te → Prop} (f : Tf) (g : Tg) (e : Te)  (hv : Q (some (.int (f 10))) (upd f 10 0) g e) :
    AWT G o ad h0 MX9_unworld Q f g e 0 [(0, .ref o)] [] := by
  refine AWT_aload_n (pc := 0) dX9_unworld_0 rfl 0 rfl ?_
  refine AWT_getI (pc := 1) 10 (by decide) rfl (FL.o q1053) dX9_unworld_1 ?_
  refine AWT_istore_n (pc := 4) (lv' := [(1, .int (f 10)), (0, .ref o)]) dX9_unworld_4 rfl (by decide) rfl ?_
  refine AWT_aload_n (pc := 5) dX9_unworld_5 rfl 1 rfl ?_
  refine AWT_iconst (pc := 6) (v := 0) dX9_unworld_6 (by decide) ?_
  refine AWT_putI (pc := 7) 10 (by decide) rfl (FL.o q1053) rfl dX9_unworld_7 ?_
  refine AWT_iload_n (pc := 10) dX9_unworld_10 rfl 0 rfl ?_
  exact AWT_iret (pc := 11) rfl rfl dX9_unworld_11 hv
theorem mcX9_unworld {G : Gl} {o : Nat} {ad : Nat → Nat} (f : Tf) (g : Tg) (e : Te)   : MCT G o ad MX9_unworld [.ref o] f g e (fun v0 f1 g1 e1 => v0 = some (.int (f 10)) ∧ upd f 10 0 = f1 ∧ g = g1 ∧ e = e1) := by
  refine MCT.of ⟨rfl, rfl⟩ (by decide) (Nat.le_of_ble_eq_true rfl) rfl (fun h0 => vcX9_unworld_0 f g e  ?_)
  exact ⟨rfl, rfl, rfl, rfl⟩
def byteOf (x : Int64) (i : Nat) : Int32 := Int64.toInt32 ((x >>> ((8 * nI i).toInt64 &&& 63)) &&& 255)
def wrT (g : Tg) (b : Nat) (x : Int64) (j : Nat) : Tg := fun k a => if k = 13 ∧ b ≤ a ∧ a < b + j then byteOf x (a - b) else g k a
theorem wrT_0 (g : Tg) (b : Nat) (x : Int64) : wrT g b x 0 = g := by
  funext k a
  unfold wrT
  rw [if_neg (by omega)]
theorem wrT_s (g : Tg) (b : Nat) (x : Int64) (j : Nat) : up2 (wrT g b x j) 13 (b + j) (byteOf x j) = wrT g b x (j + 1) := by
  funext k a
  unfold up2 wrT
  by_cases h : k = 13
  · subst h
    by_cases h2 : a = b + j
    · subst h2
      simp
    · simp only [h2, true_and, and_false, if_false]
      by_cases h3 : b ≤ a ∧ a < b + j
      · rw [if_pos h3, if_pos (by omega)]
      · rw [if_neg h3, if_neg (by omega)]
  · simp [h]
def okWr (f : Tf) (n : Int32) : Bool := decide (f 12 + n ≤ 160)
def rWrite (f : Tf) (n : Int32) : Int32 := if inB n 1 8 then (if okWr f n then f 12 + n else -5) else -3
def fWrite (f : Tf) (n : Int32) : Tf := if inB n 1 8 then (if okWr f n then upd f 12 (f 12 + n) else f) else f
def gWrite (f : Tf) (g : Tg) (x : Int64) (n : Int32) : Tg := if inB n 1 8 then (if okWr f n then wrT g (f 12).toNatClampNeg x n.toNatClampNeg else g) else g
abbrev MX9_write : Mi := (yX9_write, cX9_write, 5, some .int, { frames := 1, cells := 0, slots := 0, locals := 22 })
theorem nmX9_write : Nm yX9_write 2 := ⟨by decide +kernel, by decide +kernel, by decide +kernel⟩
theorem vcX9_write_0 {G : Gl} {o : Nat} {ad : Nat → Nat} {h0 : Hp} {Q : Option Value → Tf → Tg → Te → Prop} (f : Tf) (g : Tg) (e : Te) (x : Int64) (n : Int32) (hv : (((inB n 1 8) = true → ((((f 12) + n) ≤ 160 → AWT G o ad h0 MX9_write Q f g e 31 [(0, .ref o), (1, .long x), (3, .int n), (4, .int 0)] []) ∧ (¬ ((f 12) + n) ≤ 160 → Q (some (.int (-5))) f g e))) ∧ ((inB n 1 8) = false → Q (some (.int (-3))) f g e))) :
    AWT G o ad h0 MX9_write Q f g e 0 [(0, .ref o), (1, .long x), (3, .int n)] [] := by
  refine AWT_iload_n (pc := 0) dX9_write_0 rfl 2 rfl ?_
  refine AWT_iconst (pc := 1) (v := 1) dX9_write_1 (by decide) ?_
  refine AWT_bipush (pc := 2) (v := 8) dX9_write_2 (by decide) ?_
  refine AWT_callS (M' := MX9_in) (pc := 4) [.int n, .int 1, .int 8] [] nmX9_in ⟨rfl, rfl⟩ (ML.o q1180) q1181 q82 q1182 dX9_write_4 rfl rfl (Nat.le_of_ble_eq_true rfl) ⟨Nat.le_of_ble_eq_true rfl, Nat.le_of_ble_eq_true rfl⟩ (mcX9_in f g e n 1 8 ) ?_
  rintro _ _ _ _ ⟨rfl, rfl, rfl, rfl⟩
  refine AWT_ifb_ne (pc := 7) (tgt := 13) dX9_write_7 (by decide) (fun c1 => ?_) (fun c1 => ?_)
  · have hv := hv.1 c1
    refine AWT_aload_n (pc := 13) dX9_write_13 rfl 0 rfl ?_
    refine AWT_getI (pc := 14) 12 (by decide) rfl (FL.o q1055) dX9_write_14 ?_
    refine AWT_iload_n (pc := 17) dX9_write_17 rfl 2 rfl ?_
    refine AWT_iadd (pc := 18) dX9_write_18 ?_
    refine AWT_sipush (pc := 19) (v := 160) dX9_write_19 (by decide) ?_
    refine AWT_icmp_le (pc := 22) (tgt := 28) dX9_write_22 (by decide) (fun c2 => ?_) (fun c2 => ?_)
    · have hv := hv.1 c2
      refine AWT_iconst (pc := 28) (v := 0) dX9_write_28 (by decide) ?_
      refine AWT_istore (pc := 29) (lv' := [(4, .int 0), (0, .ref o), (1, .long x), (3, .int n)]) dX9_write_29 (by decide) rfl ?_
      refine AWT_lv (lv' := [(0, .ref o), (1, .long x), (3, .int n), (4, .int 0)]) [1, 2, 3, 0] rfl ?_
      exact hv
    · have hv := hv.2 c2
      refine AWT_bipush (pc := 25) (v := (-5)) dX9_write_25 (by decide) ?_
      exact AWT_iret (pc := 27) rfl rfl dX9_write_27 hv
  · have hv := hv.2 c1
    refine AWT_bipush (pc := 10) (v := (-3)) dX9_write_10 (by decide) ?_
    exact AWT_iret (pc := 12) rfl rfl dX9_write_12 hv
theorem vcX9_write_31 {G : Gl} {o : Nat} {ad : Nat → Nat} {h0 : Hp} {Q : Option Value → Tf → Tg → Te → Prop} (f : Tf) (g : Tg) (e : Te) (x : Int64) (n : Int32) (i : Int32) (hv : ((n ≤ i → Q (some (.int ((upd f 12 ((f 12) + n)) 12))) (upd f 12 ((f 12) + n)) g e) ∧ (¬ n ≤ i → vp_in ((f 12) + i) 160 ∧ AWT G o ad h0 MX9_write Q f (up2 g 13 ((f 12) + i).toNatClampNeg (Int64.toInt32 ((x >>> ((8 * i).toInt64 &&& 63)) &&& 255))) e 31 [(0, .ref o), (1, .long x), (3, .int n), (4, .int (i + 1))] []))) :
    AWT G o ad h0 MX9_write Q f g e 31 [(0, .ref o), (1, .long x), (3, .int n), (4, .int i)] [] := by
  refine AWT_iload (pc := 31) dX9_write_31 3 rfl ?_
  refine AWT_iload_n (pc := 33) dX9_write_33 rfl 2 rfl ?_
  refine AWT_icmp_ge (pc := 34) (tgt := 67) dX9_write_34 (by decide) (fun c1 => ?_) (fun c1 => ?_)
  · have hv := hv.1 c1
    refine AWT_aload_n (pc := 67) dX9_write_67 rfl 0 rfl ?_
    refine AWT_dup (pc := 68) dX9_write_68 rfl ?_
    refine AWT_getI (pc := 69) 12 (by decide) rfl (FL.o q1055) dX9_write_69 ?_
    refine AWT_iload_n (pc := 72) dX9_write_72 rfl 2 rfl ?_
    refine AWT_iadd (pc := 73) dX9_write_73 ?_
    refine AWT_putI (pc := 74) 12 (by decide) rfl (FL.o q1055) rfl dX9_write_74 ?_
    refine AWT_aload_n (pc := 77) dX9_write_77 rfl 0 rfl ?_
    refine AWT_getI (pc := 78) 12 (by decide) rfl (FL.o q1055) dX9_write_78 ?_
    exact AWT_iret (pc := 81) rfl rfl dX9_write_81 hv
  · have hv := hv.2 c1
    refine AWT_aload_n (pc := 37) dX9_write_37 rfl 0 rfl ?_
    refine AWT_getA (pc := 38) 13 (by decide) rfl rfl (FL.o q1056) dX9_write_38 ?_
    refine AWT_aload_n (pc := 41) dX9_write_41 rfl 0 rfl ?_
    refine AWT_getI (pc := 42) 12 (by decide) rfl (FL.o q1055) dX9_write_42 ?_
    refine AWT_iload (pc := 45) dX9_write_45 3 rfl ?_
    refine AWT_iadd (pc := 47) dX9_write_47 ?_
    refine AWT_lload_n (pc := 48) dX9_write_48 rfl 1 rfl ?_
    refine AWT_bipush (pc := 49) (v := 8) dX9_write_49 (by decide) ?_
    refine AWT_iload (pc := 51) dX9_write_51 3 rfl ?_
    refine AWT_imul (pc := 53) dX9_write_53 ?_
    refine AWT_lshr (pc := 54) dX9_write_54 ?_
    refine AWT_ldc2 (pc := 55) q1231 dX9_write_55 ?_
    refine AWT_land (pc := 58) dX9_write_58 ?_
    refine AWT_l2i (pc := 59) dX9_write_59 ?_
    refine AWT_iast (pc := 60) (k := 13) (n := 160) rfl dX9_write_60 hv.1 ?_
    have hv := hv.2
    refine AWT_iinc (pc := 61) (v := i + 1) (lv' := [(4, .int (i + 1)), (0, .ref o), (1, .long x), (3, .int n)]) dX9_write_61 3 rfl rfl (by decide) rfl ?_
    refine AWT_goto (pc := 64) (tgt := 31) dX9_write_64 (by decide) ?_
    refine AWT_lv (lv' := [(0, .ref o), (1, .long x), (3, .int n), (4, .int (i + 1))]) [1, 2, 3, 0] rfl ?_
    exact hv
theorem mcX9_write {G : Gl} {o : Nat} {ad : Nat → Nat} (f : Tf) (g : Tg) (e : Te) (x : Int64) (n : Int32) (h1 : MI f g) : MCT G o ad MX9_write [.ref o, .long x, .int n] f g e (fun v0 f1 g1 e1 => v0 = some (.int (rWrite f n)) ∧ fWrite f n = f1 ∧ gWrite f g x n = g1 ∧ e = e1) := by
  refine MCT.of ⟨rfl, rfl⟩ (by decide) (Nat.le_of_ble_eq_true rfl) rfl (fun h0 => vcX9_write_0 f g e x n ?_)
  refine ⟨fun c => ⟨fun c2 => ?_, fun c2 => by simp [rWrite, fWrite, gWrite, okWr, c, c2]⟩, fun c => by simp [rWrite, fWrite, gWrite, c]⟩
  obtain ⟨-, -, -, -, ⟨b, hb, hb160, -⟩, -⟩ := h1
  obtain ⟨m, rfl, hm1, hm8⟩ := inB_n (a := 1) (b := 8) rfl rfl (by decide) (by decide) c
  have c3 : b + m ≤ 160 := by
    rw [hb, nI_add] at c2
    exact (nI_leI (b := 160) (by omega) (by decide)).mp c2
  have hcl : (f 12).toNatClampNeg = b := by rw [hb]; exact nI_clamp (by omega)
  rw [← wrT_0 g b x]
  refine loopUp (A := fun j => AWT G o ad h0 MX9_write _ f (wrT g b x j) e 31 [(0, .ref o), (1, .long x), (3, .int (nI m)), (4, .int (nI j))] []) m ?_ ?_ 0 (by omega)
  · refine vcX9_write_31 _ _ e _ _ _ (pk_le m m (fun _ => ?_) (fun z => by omega))
    simp [rWrite, fWrite, gWrite, okWr, c, c2, upd_s, hcl, wrT_0, nc m]
  · intro j hj ih
    refine vcX9_write_31 _ _ e _ _ _ (pk_le m j (fun z => by omega) (fun _ => ⟨by rw [hb, nI_add]; exact vp_in_nI (by omega) (by decide), ?_⟩))
    have e1 : ((f 12) + nI j).toNatClampNeg = b + j := by rw [hb, nI_add]; exact nI_clamp (by omega)
    rw [e1, nI_1]
    have := wrT_s g b x j
    unfold byteOf at this
    rw [this]
    exact ih
abbrev MX9_erase : Mi := (yX9_erase, cX9_erase, 2, some .int, { frames := 0, cells := 0, slots := 0, locals := 0 })
theorem nmX9_erase : Nm yX9_erase 0 := ⟨by decide +kernel, by decide +kernel, by decide +kernel⟩
theorem vcX9_erase_0 {G : Gl} {o : Nat} {ad : Nat → Nat} {h0 : Hp} {Q : Option Value → Tf → Tg → Te → Prop} (f : Tf) (g : Tg) (e : Te)  (hv : Q (some (.int (f 12))) (upd f 12 0) g e) :
    AWT G o ad h0 MX9_erase Q f g e 0 [(0, .ref o)] [] := by
  refine AWT_aload_n (pc := 0) dX9_erase_0 rfl 0 rfl ?_
  refine AWT_getI (pc := 1) 12 (by decide) rfl (FL.o q1055) dX9_erase_1 ?_
  refine AWT_istore_n (pc := 4) (lv' := [(1, .int (f 12)), (0, .ref o)]) dX9_erase_4 rfl (by decide) rfl ?_
  refine AWT_aload_n (pc := 5) dX9_erase_5 rfl 1 rfl ?_
  refine AWT_iconst (pc := 6) (v := 0) dX9_erase_6 (by decide) ?_
  refine AWT_putI (pc := 7) 12 (by decide) rfl (FL.o q1055) rfl dX9_erase_7 ?_
  refine AWT_iload_n (pc := 10) dX9_erase_10 rfl 0 rfl ?_
  exact AWT_iret (pc := 11) rfl rfl dX9_erase_11 hv
theorem mcX9_erase {G : Gl} {o : Nat} {ad : Nat → Nat} (f : Tf) (g : Tg) (e : Te)   : MCT G o ad MX9_erase [.ref o] f g e (fun v0 f1 g1 e1 => v0 = some (.int (f 12)) ∧ upd f 12 0 = f1 ∧ g = g1 ∧ e = e1) := by
  refine MCT.of ⟨rfl, rfl⟩ (by decide) (Nat.le_of_ble_eq_true rfl) rfl (fun h0 => vcX9_erase_0 f g e  ?_)
  exact ⟨rfl, rfl, rfl, rfl⟩
def rAgain (f : Tf) (v : Int32) : Int32 := if inB v 0 1 then f 31 else -3
def fAgain (f : Tf) (v : Int32) : Tf := if inB v 0 1 then upd f 31 v else f
abbrev MX9_again : Mi := (yX9_again, cX9_again, 3, some .int, { frames := 1, cells := 0, slots := 0, locals := 22 })
theorem nmX9_again : Nm yX9_again 1 := ⟨by decide +kernel, by decide +kernel, by decide +kernel⟩
theorem vcX9_again_0 {G : Gl} {o : Nat} {ad : Nat → Nat} {h0 : Hp} {Q : Option Value → Tf → Tg → Te → Prop} (f : Tf) (g : Tg) (e : Te) (v : Int32) (hv : (((inB v 0 1) = true → Q (some (.int (f 31))) (upd f 31 v) g e) ∧ ((inB v 0 1) = false → Q (some (.int (-3))) f g e))) :
    AWT G o ad h0 MX9_again Q f g e 0 [(0, .ref o), (1, .int v)] [] := by
  refine AWT_iload_n (pc := 0) dX9_again_0 rfl 1 rfl ?_
  refine AWT_iconst (pc := 1) (v := 0) dX9_again_1 (by decide) ?_
  refine AWT_iconst (pc := 2) (v := 1) dX9_again_2 (by decide) ?_
  refine AWT_callS (M' := MX9_in) (pc := 3) [.int v, .int 0, .int 1] [] nmX9_in ⟨rfl, rfl⟩ (ML.o q1180) q1181 q82 q1182 dX9_again_3 rfl rfl (Nat.le_of_ble_eq_true rfl) ⟨Nat.le_of_ble_eq_true rfl, Nat.le_of_ble_eq_true rfl⟩ (mcX9_in f g e v 0 1 ) ?_
  rintro _ _ _ _ ⟨rfl, rfl, rfl, rfl⟩
  refine AWT_ifb_ne (pc := 6) (tgt := 12) dX9_again_6 (by decide) (fun c1 => ?_) (fun c1 => ?_)
  · have hv := hv.1 c1
    refine AWT_aload_n (pc := 12) dX9_again_12 rfl 0 rfl ?_
    refine AWT_getI (pc := 13) 31 (by decide) rfl (FL.o q1074) dX9_again_13 ?_
    refine AWT_istore_n (pc := 16) (lv' := [(2, .int (f 31)), (0, .ref o), (1, .int v)]) dX9_again_16 rfl (by decide) rfl ?_
    refine AWT_aload_n (pc := 17) dX9_again_17 rfl 1 rfl ?_
    refine AWT_iload_n (pc := 18) dX9_again_18 rfl 2 rfl ?_
    refine AWT_putI (pc := 19) 31 (by decide) rfl (FL.o q1074) rfl dX9_again_19 ?_
    refine AWT_iload_n (pc := 22) dX9_again_22 rfl 0 rfl ?_
    exact AWT_iret (pc := 23) rfl rfl dX9_again_23 hv
  · have hv := hv.2 c1
    refine AWT_bipush (pc := 9) (v := (-3)) dX9_again_9 (by decide) ?_
    exact AWT_iret (pc := 11) rfl rfl dX9_again_11 hv
theorem mcX9_again {G : Gl} {o : Nat} {ad : Nat → Nat} (f : Tf) (g : Tg) (e : Te) (v : Int32)  : MCT G o ad MX9_again [.ref o, .int v] f g e (fun v0 f1 g1 e1 => v0 = some (.int (rAgain f v)) ∧ fAgain f v = f1 ∧ g = g1 ∧ e = e1) := by
  refine MCT.of ⟨rfl, rfl⟩ (by decide) (Nat.le_of_ble_eq_true rfl) rfl (fun h0 => vcX9_again_0 f g e v ?_)
  exact ⟨fun c => by simp [rAgain, fAgain, c], fun c => by simp [rAgain, fAgain, c]⟩
def rShare (g : Tg) (l v : Int32) : Int32 := if inB l 0 3 then (if inB v 1 20 then g 37 l.toNatClampNeg else -3) else -2
def gShare (g : Tg) (l v : Int32) : Tg := if inB l 0 3 && inB v 1 20 then up2 g 37 l.toNatClampNeg v else g
theorem inB_in {x m : Int32} {b n : Nat} (hm : m = nI b) (hb : b < n) (hn : n < 2 ^ 31) (h : inB x 0 m = true) : vp_in x n := by
  obtain ⟨j, rfl, -, hj⟩ := inB_n (a := 0) (b := b) rfl hm (by decide) (by omega) h
  exact vp_in_nI (by omega) hn
abbrev MX9_share : Mi := (yX9_share, cX9_share, 4, some .int, { frames := 1, cells := 0, slots := 0, locals := 22 })
theorem nmX9_share : Nm yX9_share 2 := ⟨by decide +kernel, by decide +kernel, by decide +kernel⟩
theorem vcX9_share_0 {G : Gl} {o : Nat} {ad : Nat → Nat} {h0 : Hp} {Q : Option Value → Tf → Tg → Te → Prop} (f : Tf) (g : Tg) (e : Te) (l : Int32) (v : Int32) (hv : (((inB l 0 3) = true → (((inB v 1 20) = true → vp_in l 4 ∧ vp_in l 4 ∧ Q (some (.int (g 37 l.toNatClampNeg))) f (up2 g 37 l.toNatClampNeg v) e) ∧ ((inB v 1 20) = false → Q (some (.int (-3))) f g e))) ∧ ((inB l 0 3) = false → Q (some (.int (-2))) f g e))) :
    AWT G o ad h0 MX9_share Q f g e 0 [(0, .ref o), (1, .int l), (2, .int v)] [] := by
  refine AWT_iload_n (pc := 0) dX9_share_0 rfl 1 rfl ?_
  refine AWT_iconst (pc := 1) (v := 0) dX9_share_1 (by decide) ?_
  refine AWT_iconst (pc := 2) (v := 3) dX9_share_2 (by decide) ?_
  refine AWT_callS (M' := MX9_in) (pc := 3) [.int l, .int 0, .int 3] [] nmX9_in ⟨rfl, rfl⟩ (ML.o q1180) q1181 q82 q1182 dX9_share_3 rfl rfl (Nat.le_of_ble_eq_true rfl) ⟨Nat.le_of_ble_eq_true rfl, Nat.le_of_ble_eq_true rfl⟩ (mcX9_in f g e l 0 3 ) ?_
  rintro _ _ _ _ ⟨rfl, rfl, rfl, rfl⟩
  refine AWT_ifb_ne (pc := 6) (tgt := 12) dX9_share_6 (by decide) (fun c1 => ?_) (fun c1 => ?_)
  · have hv := hv.1 c1
    refine AWT_iload_n (pc := 12) dX9_share_12 rfl 2 rfl ?_
    refine AWT_iconst (pc := 13) (v := 1) dX9_share_13 (by decide) ?_
    refine AWT_bipush (pc := 14) (v := 20) dX9_share_14 (by decide) ?_
    refine AWT_callS (M' := MX9_in) (pc := 16) [.int v, .int 1, .int 20] [] nmX9_in ⟨rfl, rfl⟩ (ML.o q1180) q1181 q82 q1182 dX9_share_16 rfl rfl (Nat.le_of_ble_eq_true rfl) ⟨Nat.le_of_ble_eq_true rfl, Nat.le_of_ble_eq_true rfl⟩ (mcX9_in f g e v 1 20 ) ?_
    rintro _ _ _ _ ⟨rfl, rfl, rfl, rfl⟩
    refine AWT_ifb_ne (pc := 19) (tgt := 25) dX9_share_19 (by decide) (fun c2 => ?_) (fun c2 => ?_)
    · have hv := hv.1 c2
      refine AWT_aload_n (pc := 25) dX9_share_25 rfl 0 rfl ?_
      refine AWT_getA (pc := 26) 37 (by decide) rfl rfl (FL.o q1080) dX9_share_26 ?_
      refine AWT_iload_n (pc := 29) dX9_share_29 rfl 1 rfl ?_
      refine AWT_iald (pc := 30) (k := 37) (n := 4) rfl dX9_share_30 hv.1 ?_
      have hv := hv.2
      refine AWT_istore_n (pc := 31) (lv' := [(3, .int (g 37 l.toNatClampNeg)), (0, .ref o), (1, .int l), (2, .int v)]) dX9_share_31 rfl (by decide) rfl ?_
      refine AWT_aload_n (pc := 32) dX9_share_32 rfl 1 rfl ?_
      refine AWT_getA (pc := 33) 37 (by decide) rfl rfl (FL.o q1080) dX9_share_33 ?_
      refine AWT_iload_n (pc := 36) dX9_share_36 rfl 2 rfl ?_
      refine AWT_iload_n (pc := 37) dX9_share_37 rfl 3 rfl ?_
      refine AWT_iast (pc := 38) (k := 37) (n := 4) rfl dX9_share_38 hv.1 ?_
      have hv := hv.2
      refine AWT_iload_n (pc := 39) dX9_share_39 rfl 0 rfl ?_
      exact AWT_iret (pc := 40) rfl rfl dX9_share_40 hv
    · have hv := hv.2 c2
      refine AWT_bipush (pc := 22) (v := (-3)) dX9_share_22 (by decide) ?_
      exact AWT_iret (pc := 24) rfl rfl dX9_share_24 hv
  · have hv := hv.2 c1
    refine AWT_bipush (pc := 9) (v := (-2)) dX9_share_9 (by decide) ?_
    exact AWT_iret (pc := 11) rfl rfl dX9_share_11 hv
theorem mcX9_share {G : Gl} {o : Nat} {ad : Nat → Nat} (f : Tf) (g : Tg) (e : Te) (l : Int32) (v : Int32)  : MCT G o ad MX9_share [.ref o, .int l, .int v] f g e (fun v0 f1 g1 e1 => v0 = some (.int (rShare g l v)) ∧ f = f1 ∧ gShare g l v = g1 ∧ e = e1) := by
  refine MCT.of ⟨rfl, rfl⟩ (by decide) (Nat.le_of_ble_eq_true rfl) rfl (fun h0 => vcX9_share_0 f g e l v ?_)
  refine ⟨fun c => ⟨fun c2 => ?_, fun c2 => by simp [rShare, gShare, c, c2]⟩, fun c => by simp [rShare, gShare, c]⟩
  have hin : vp_in l 4 := inB_in (b := 3) rfl (by decide) (by decide) c
  exact ⟨hin, hin, by simp [rShare, gShare, c, c2]⟩
def rAccount (g : Tg) (w : Int32) : Int32 := if inB w 0 7 then g 38 w.toNatClampNeg else -3
abbrev MX9_account : Mi := (yX9_account, cX9_account, 2, some .int, { frames := 1, cells := 0, slots := 0, locals := 22 })
theorem nmX9_account : Nm yX9_account 1 := ⟨by decide +kernel, by decide +kernel, by decide +kernel⟩
theorem vcX9_account_0 {G : Gl} {o : Nat} {ad : Nat → Nat} {h0 : Hp} {Q : Option Value → Tf → Tg → Te → Prop} (f : Tf) (g : Tg) (e : Te) (w : Int32) (hv : (((inB w 0 7) = false → Q (some (.int (-3))) f g e) ∧ ((inB w 0 7) = true → vp_in w 8 ∧ Q (some (.int (g 38 w.toNatClampNeg))) f g e))) :
    AWT G o ad h0 MX9_account Q f g e 0 [(0, .ref o), (1, .int w)] [] := by
  refine AWT_iload_n (pc := 0) dX9_account_0 rfl 1 rfl ?_
  refine AWT_iconst (pc := 1) (v := 0) dX9_account_1 (by decide) ?_
  refine AWT_bipush (pc := 2) (v := 7) dX9_account_2 (by decide) ?_
  refine AWT_callS (M' := MX9_in) (pc := 4) [.int w, .int 0, .int 7] [] nmX9_in ⟨rfl, rfl⟩ (ML.o q1180) q1181 q82 q1182 dX9_account_4 rfl rfl (Nat.le_of_ble_eq_true rfl) ⟨Nat.le_of_ble_eq_true rfl, Nat.le_of_ble_eq_true rfl⟩ (mcX9_in f g e w 0 7 ) ?_
  rintro _ _ _ _ ⟨rfl, rfl, rfl, rfl⟩
  refine AWT_ifb_eq (pc := 7) (tgt := 19) dX9_account_7 (by decide) (fun c1 => ?_) (fun c1 => ?_)
  · have hv := hv.1 c1
    refine AWT_bipush (pc := 19) (v := (-3)) dX9_account_19 (by decide) ?_
    exact AWT_iret (pc := 21) rfl rfl dX9_account_21 hv
  · have hv := hv.2 c1
    refine AWT_aload_n (pc := 10) dX9_account_10 rfl 0 rfl ?_
    refine AWT_getA (pc := 11) 38 (by decide) rfl rfl (FL.o q1081) dX9_account_11 ?_
    refine AWT_iload_n (pc := 14) dX9_account_14 rfl 1 rfl ?_
    refine AWT_iald (pc := 15) (k := 38) (n := 8) rfl dX9_account_15 hv.1 ?_
    have hv := hv.2
    refine AWT_goto (pc := 16) (tgt := 21) dX9_account_16 (by decide) ?_
    exact AWT_iret (pc := 21) rfl rfl dX9_account_21 hv
theorem mcX9_account {G : Gl} {o : Nat} {ad : Nat → Nat} (f : Tf) (g : Tg) (e : Te) (w : Int32)  : MCT G o ad MX9_account [.ref o, .int w] f g e (fun v0 f1 g1 e1 => v0 = some (.int (rAccount g w)) ∧ f = f1 ∧ g = g1 ∧ e = e1) := by
  refine MCT.of ⟨rfl, rfl⟩ (by decide) (Nat.le_of_ble_eq_true rfl) rfl (fun h0 => vcX9_account_0 f g e w ?_)
  exact ⟨fun c => by simp [rAccount, c], fun c => ⟨inB_in (b := 7) rfl (by decide) (by decide) c, by simp [rAccount, c]⟩⟩
def rCount (f : Tf) (w : Int32) : Int32 := if w = 0 then f 0 else if w = 1 then f 1 else if w = 2 then f 2 else if w = 3 then f 21 else if w = 4 then f 10 else if w = 5 then f 12 else if w = 6 then f 39 else -3
abbrev MX9_count : Mi := (yX9_count, cX9_count, 2, some .int, { frames := 0, cells := 0, slots := 0, locals := 0 })
theorem nmX9_count : Nm yX9_count 1 := ⟨by decide +kernel, by decide +kernel, by decide +kernel⟩
theorem vcX9_count_0 {G : Gl} {o : Nat} {ad : Nat → Nat} {h0 : Hp} {Q : Option Value → Tf → Tg → Te → Prop} (f : Tf) (g : Tg) (e : Te) (w : Int32) (hv : ((w = 0 → Q (some (.int (f 0))) f g e) ∧ (w = 1 → Q (some (.int (f 1))) f g e) ∧ (w = 2 → Q (some (.int (f 2))) f g e) ∧ (w = 3 → Q (some (.int (f 21))) f g e) ∧ (w = 4 → Q (some (.int (f 10))) f g e) ∧ (w = 5 → Q (some (.int (f 12))) f g e) ∧ (w = 6 → Q (some (.int (f 39))) f g e) ∧ (¬ w = 0 → ¬ w = 1 → ¬ w = 2 → ¬ w = 3 → ¬ w = 4 → ¬ w = 5 → ¬ w = 6 → Q (some (.int (-3))) f g e))) :
    AWT G o ad h0 MX9_count Q f g e 0 [(0, .ref o), (1, .int w)] [] := by
  refine AWT_iload_n (pc := 0) dX9_count_0 rfl 1 rfl ?_
  by_cases c1_0 : w = 0
  · have hv1 := hv.1 c1_0
    refine AWT_tableIn (pc := 1) (tgt := 44) dX9_count_1 (by rw [c1_0]; decide) (by rw [c1_0]; decide) (off := 43) (by rw [c1_0]; decide) (by decide) ?_
    refine AWT_aload_n (pc := 44) dX9_count_44 rfl 0 rfl ?_
    refine AWT_getI (pc := 45) 0 (by decide) rfl (FL.o q1043) dX9_count_45 ?_
    exact AWT_iret (pc := 48) rfl rfl dX9_count_48 hv1
  by_cases c1_1 : w = 1
  · have hv1 := hv.2.1 c1_1
    refine AWT_tableIn (pc := 1) (tgt := 49) dX9_count_1 (by rw [c1_1]; decide) (by rw [c1_1]; decide) (off := 48) (by rw [c1_1]; decide) (by decide) ?_
    refine AWT_aload_n (pc := 49) dX9_count_49 rfl 0 rfl ?_
    refine AWT_getI (pc := 50) 1 (by decide) rfl (FL.o q1044) dX9_count_50 ?_
    exact AWT_iret (pc := 53) rfl rfl dX9_count_53 hv1
  by_cases c1_2 : w = 2
  · have hv1 := hv.2.2.1 c1_2
    refine AWT_tableIn (pc := 1) (tgt := 54) dX9_count_1 (by rw [c1_2]; decide) (by rw [c1_2]; decide) (off := 53) (by rw [c1_2]; decide) (by decide) ?_
    refine AWT_aload_n (pc := 54) dX9_count_54 rfl 0 rfl ?_
    refine AWT_getI (pc := 55) 2 (by decide) rfl (FL.o q1045) dX9_count_55 ?_
    exact AWT_iret (pc := 58) rfl rfl dX9_count_58 hv1
  by_cases c1_3 : w = 3
  · have hv1 := hv.2.2.2.1 c1_3
    refine AWT_tableIn (pc := 1) (tgt := 59) dX9_count_1 (by rw [c1_3]; decide) (by rw [c1_3]; decide) (off := 58) (by rw [c1_3]; decide) (by decide) ?_
    refine AWT_aload_n (pc := 59) dX9_count_59 rfl 0 rfl ?_
    refine AWT_getI (pc := 60) 21 (by decide) rfl (FL.o q1064) dX9_count_60 ?_
    exact AWT_iret (pc := 63) rfl rfl dX9_count_63 hv1
  by_cases c1_4 : w = 4
  · have hv1 := hv.2.2.2.2.1 c1_4
    refine AWT_tableIn (pc := 1) (tgt := 64) dX9_count_1 (by rw [c1_4]; decide) (by rw [c1_4]; decide) (off := 63) (by rw [c1_4]; decide) (by decide) ?_
    refine AWT_aload_n (pc := 64) dX9_count_64 rfl 0 rfl ?_
    refine AWT_getI (pc := 65) 10 (by decide) rfl (FL.o q1053) dX9_count_65 ?_
    exact AWT_iret (pc := 68) rfl rfl dX9_count_68 hv1
  by_cases c1_5 : w = 5
  · have hv1 := hv.2.2.2.2.2.1 c1_5
    refine AWT_tableIn (pc := 1) (tgt := 69) dX9_count_1 (by rw [c1_5]; decide) (by rw [c1_5]; decide) (off := 68) (by rw [c1_5]; decide) (by decide) ?_
    refine AWT_aload_n (pc := 69) dX9_count_69 rfl 0 rfl ?_
    refine AWT_getI (pc := 70) 12 (by decide) rfl (FL.o q1055) dX9_count_70 ?_
    exact AWT_iret (pc := 73) rfl rfl dX9_count_73 hv1
  by_cases c1_6 : w = 6
  · have hv1 := hv.2.2.2.2.2.2.1 c1_6
    refine AWT_tableIn (pc := 1) (tgt := 74) dX9_count_1 (by rw [c1_6]; decide) (by rw [c1_6]; decide) (off := 73) (by rw [c1_6]; decide) (by decide) ?_
    refine AWT_aload_n (pc := 74) dX9_count_74 rfl 0 rfl ?_
    refine AWT_getI (pc := 75) 39 (by decide) rfl (FL.o q1082) dX9_count_75 ?_
    exact AWT_iret (pc := 78) rfl rfl dX9_count_78 hv1
  have hv1 := hv.2.2.2.2.2.2.2 c1_0 c1_1 c1_2 c1_3 c1_4 c1_5 c1_6
  have hdf : AWT G o ad h0 MX9_count Q f g e 79 [(0, .ref o), (1, .int w)] [] := by
    refine AWT_bipush (pc := 79) (v := (-3)) dX9_count_79 (by decide) ?_
    exact AWT_iret (pc := 81) rfl rfl dX9_count_81 hv1
  have c1_0 := lv_neT c1_0 (a := 0) (by decide)
  have c1_1 := lv_neT c1_1 (a := 1) (by decide)
  have c1_2 := lv_neT c1_2 (a := 2) (by decide)
  have c1_3 := lv_neT c1_3 (a := 3) (by decide)
  have c1_4 := lv_neT c1_4 (a := 4) (by decide)
  have c1_5 := lv_neT c1_5 (a := 5) (by decide)
  have c1_6 := lv_neT c1_6 (a := 6) (by decide)
  exact AWT_tableOut (pc := 1) (tgt := 79) dX9_count_1 (by omega) (by decide) hdf
theorem mcX9_count {G : Gl} {o : Nat} {ad : Nat → Nat} (f : Tf) (g : Tg) (e : Te) (w : Int32)  : MCT G o ad MX9_count [.ref o, .int w] f g e (fun v0 f1 g1 e1 => v0 = some (.int (rCount f w)) ∧ f = f1 ∧ g = g1 ∧ e = e1) := by
  refine MCT.of ⟨rfl, rfl⟩ (by decide) (Nat.le_of_ble_eq_true rfl) rfl (fun h0 => vcX9_count_0 f g e w ?_)
  refine ⟨fun c => by subst c; exact ⟨rfl, rfl, rfl, rfl⟩, fun c => by subst c; exact ⟨rfl, rfl, rfl, rfl⟩, fun c => by subst c; exact ⟨rfl, rfl, rfl, rfl⟩, fun c => by subst c; exact ⟨rfl, rfl, rfl, rfl⟩, fun c => by subst c; exact ⟨rfl, rfl, rfl, rfl⟩, fun c => by subst c; exact ⟨rfl, rfl, rfl, rfl⟩, fun c => by subst c; exact ⟨rfl, rfl, rfl, rfl⟩, fun c0 c1 c2 c3 c4 c5 c6 => by simp [rCount, c0, c1, c2, c3, c4, c5, c6]⟩
def debtS (g : Tg) (l : Int32) : Int32 := g 37 l.toNatClampNeg * (0 + g 38 0 + g 38 1 + g 38 2 + g 38 3) - (0 + g 37 0 + g 37 1 + g 37 2 + g 37 3) * g 38 l.toNatClampNeg
abbrev MX9_debtOf : Mi := (yX9_debtOf, cX9_debtOf, 5, some .int, { frames := 0, cells := 0, slots := 0, locals := 0 })
theorem nmX9_debtOf : Nm yX9_debtOf 1 := ⟨by decide +kernel, by decide +kernel, by decide +kernel⟩
theorem vcX9_debtOf_0 {G : Gl} {o : Nat} {ad : Nat → Nat} {h0 : Hp} {Q : Option Value → Tf → Tg → Te → Prop} (f : Tf) (g : Tg) (e : Te) (l : Int32) (hv : AWT G o ad h0 MX9_debtOf Q f g e 7 [(0, .ref o), (1, .int l), (2, .int 0), (3, .int 0), (4, .int 0)] []) :
    AWT G o ad h0 MX9_debtOf Q f g e 0 [(0, .ref o), (1, .int l)] [] := by
  refine AWT_iconst (pc := 0) (v := 0) dX9_debtOf_0 (by decide) ?_
  refine AWT_istore_n (pc := 1) (lv' := [(2, .int 0), (0, .ref o), (1, .int l)]) dX9_debtOf_1 rfl (by decide) rfl ?_
  refine AWT_iconst (pc := 2) (v := 0) dX9_debtOf_2 (by decide) ?_
  refine AWT_istore_n (pc := 3) (lv' := [(3, .int 0), (2, .int 0), (0, .ref o), (1, .int l)]) dX9_debtOf_3 rfl (by decide) rfl ?_
  refine AWT_iconst (pc := 4) (v := 0) dX9_debtOf_4 (by decide) ?_
  refine AWT_istore (pc := 5) (lv' := [(4, .int 0), (3, .int 0), (2, .int 0), (0, .ref o), (1, .int l)]) dX9_debtOf_5 (by decide) rfl ?_
  refine AWT_lv (lv' := [(0, .ref o), (1, .int l), (2, .int 0), (3, .int 0), (4, .int 0)]) [3, 4, 2, 1, 0] rfl ?_
  exact hv
theorem vcX9_debtOf_7 {G : Gl} {o : Nat} {ad : Nat → Nat} {h0 : Hp} {Q : Option Value → Tf → Tg → Te → Prop} (f : Tf) (g : Tg) (e : Te) (l : Int32) (u : Int32) (a : Int32) (k : Int32) (hv : ((4 ≤ k → vp_in l 4 ∧ vp_in l 8 ∧ Q (some (.int (((g 37 l.toNatClampNeg) * u) - (a * (g 38 l.toNatClampNeg))))) f g e) ∧ (¬ 4 ≤ k → vp_in k 8 ∧ vp_in k 4 ∧ AWT G o ad h0 MX9_debtOf Q f g e 7 [(0, .ref o), (1, .int l), (2, .int (u + (g 38 k.toNatClampNeg))), (3, .int (a + (g 37 k.toNatClampNeg))), (4, .int (k + 1))] []))) :
    AWT G o ad h0 MX9_debtOf Q f g e 7 [(0, .ref o), (1, .int l), (2, .int u), (3, .int a), (4, .int k)] [] := by
  refine AWT_iload (pc := 7) dX9_debtOf_7 4 rfl ?_
  refine AWT_iconst (pc := 9) (v := 4) dX9_debtOf_9 (by decide) ?_
  refine AWT_icmp_ge (pc := 10) (tgt := 39) dX9_debtOf_10 (by decide) (fun c1 => ?_) (fun c1 => ?_)
  · have hv := hv.1 c1
    refine AWT_aload_n (pc := 39) dX9_debtOf_39 rfl 0 rfl ?_
    refine AWT_getA (pc := 40) 37 (by decide) rfl rfl (FL.o q1080) dX9_debtOf_40 ?_
    refine AWT_iload_n (pc := 43) dX9_debtOf_43 rfl 1 rfl ?_
    refine AWT_iald (pc := 44) (k := 37) (n := 4) rfl dX9_debtOf_44 hv.1 ?_
    have hv := hv.2
    refine AWT_iload_n (pc := 45) dX9_debtOf_45 rfl 2 rfl ?_
    refine AWT_imul (pc := 46) dX9_debtOf_46 ?_
    refine AWT_iload_n (pc := 47) dX9_debtOf_47 rfl 3 rfl ?_
    refine AWT_aload_n (pc := 48) dX9_debtOf_48 rfl 0 rfl ?_
    refine AWT_getA (pc := 49) 38 (by decide) rfl rfl (FL.o q1081) dX9_debtOf_49 ?_
    refine AWT_iload_n (pc := 52) dX9_debtOf_52 rfl 1 rfl ?_
    refine AWT_iald (pc := 53) (k := 38) (n := 8) rfl dX9_debtOf_53 hv.1 ?_
    have hv := hv.2
    refine AWT_imul (pc := 54) dX9_debtOf_54 ?_
    refine AWT_isub (pc := 55) dX9_debtOf_55 ?_
    exact AWT_iret (pc := 56) rfl rfl dX9_debtOf_56 hv
  · have hv := hv.2 c1
    refine AWT_iload_n (pc := 13) dX9_debtOf_13 rfl 2 rfl ?_
    refine AWT_aload_n (pc := 14) dX9_debtOf_14 rfl 0 rfl ?_
    refine AWT_getA (pc := 15) 38 (by decide) rfl rfl (FL.o q1081) dX9_debtOf_15 ?_
    refine AWT_iload (pc := 18) dX9_debtOf_18 4 rfl ?_
    refine AWT_iald (pc := 20) (k := 38) (n := 8) rfl dX9_debtOf_20 hv.1 ?_
    have hv := hv.2
    refine AWT_iadd (pc := 21) dX9_debtOf_21 ?_
    refine AWT_istore_n (pc := 22) (lv' := [(2, .int (u + (g 38 k.toNatClampNeg))), (0, .ref o), (1, .int l), (3, .int a), (4, .int k)]) dX9_debtOf_22 rfl (by decide) rfl ?_
    refine AWT_iload_n (pc := 23) dX9_debtOf_23 rfl 3 rfl ?_
    refine AWT_aload_n (pc := 24) dX9_debtOf_24 rfl 1 rfl ?_
    refine AWT_getA (pc := 25) 37 (by decide) rfl rfl (FL.o q1080) dX9_debtOf_25 ?_
    refine AWT_iload (pc := 28) dX9_debtOf_28 4 rfl ?_
    refine AWT_iald (pc := 30) (k := 37) (n := 4) rfl dX9_debtOf_30 hv.1 ?_
    have hv := hv.2
    refine AWT_iadd (pc := 31) dX9_debtOf_31 ?_
    refine AWT_istore_n (pc := 32) (lv' := [(3, .int (a + (g 37 k.toNatClampNeg))), (2, .int (u + (g 38 k.toNatClampNeg))), (0, .ref o), (1, .int l), (4, .int k)]) dX9_debtOf_32 rfl (by decide) rfl ?_
    refine AWT_iinc (pc := 33) (v := k + 1) (lv' := [(4, .int (k + 1)), (3, .int (a + (g 37 k.toNatClampNeg))), (2, .int (u + (g 38 k.toNatClampNeg))), (0, .ref o), (1, .int l)]) dX9_debtOf_33 4 rfl rfl (by decide) rfl ?_
    refine AWT_goto (pc := 36) (tgt := 7) dX9_debtOf_36 (by decide) ?_
    refine AWT_lv (lv' := [(0, .ref o), (1, .int l), (2, .int (u + (g 38 k.toNatClampNeg))), (3, .int (a + (g 37 k.toNatClampNeg))), (4, .int (k + 1))]) [3, 4, 2, 1, 0] rfl ?_
    exact hv
theorem mcX9_debtOf {G : Gl} {o : Nat} {ad : Nat → Nat} (f : Tf) (g : Tg) (e : Te) (l : Int32) (h1 : vp_in l 4) : MCT G o ad MX9_debtOf [.ref o, .int l] f g e (fun v0 f1 g1 e1 => v0 = some (.int (debtS g l)) ∧ f = f1 ∧ g = g1 ∧ e = e1) := by
  refine MCT.of ⟨rfl, rfl⟩ (by decide) (Nat.le_of_ble_eq_true rfl) rfl (fun h0 => vcX9_debtOf_0 f g e l ?_)
  have h8 : vp_in l 8 := by
    obtain ⟨j, hj, rfl⟩ := vp_in_of h1 (by decide)
    exact vp_in_nI (by omega) (by decide)
  refine vcX9_debtOf_7 f g e _ _ _ _ (br_f (by decide) ⟨pk_in 0 8 (by decide), pk_in 0 4 (by decide), ?_⟩)
  refine vcX9_debtOf_7 f g e _ _ _ _ (br_f (by decide) ⟨pk_in 1 8 (by decide), pk_in 1 4 (by decide), ?_⟩)
  refine vcX9_debtOf_7 f g e _ _ _ _ (br_f (by decide) ⟨pk_in 2 8 (by decide), pk_in 2 4 (by decide), ?_⟩)
  refine vcX9_debtOf_7 f g e _ _ _ _ (br_f (by decide) ⟨pk_in 3 8 (by decide), pk_in 3 4 (by decide), ?_⟩)
  exact vcX9_debtOf_7 f g e _ _ _ _ (br_t (by decide) ⟨h1, h8, rfl, rfl, rfl, rfl⟩)
def rDebt (g : Tg) (l : Int32) : Int32 := if inB l 0 3 then debtS g l else -2147483648
abbrev MX9_debt : Mi := (yX9_debt, cX9_debt, 2, some .int, { frames := 1, cells := 0, slots := 0, locals := 24 })
theorem nmX9_debt : Nm yX9_debt 1 := ⟨by decide +kernel, by decide +kernel, by decide +kernel⟩
theorem vcX9_debt_0 {G : Gl} {o : Nat} {ad : Nat → Nat} {h0 : Hp} {Q : Option Value → Tf → Tg → Te → Prop} (f : Tf) (g : Tg) (e : Te) (l : Int32) (hv : (((inB l 0 3) = false → Q (some (.int (-2147483648))) f g e) ∧ ((inB l 0 3) = true → (vp_in l 4) ∧ Q (some (.int (debtS g l))) f g e))) :
    AWT G o ad h0 MX9_debt Q f g e 0 [(0, .ref o), (1, .int l)] [] := by
  refine AWT_iload_n (pc := 0) dX9_debt_0 rfl 1 rfl ?_
  refine AWT_iconst (pc := 1) (v := 0) dX9_debt_1 (by decide) ?_
  refine AWT_iconst (pc := 2) (v := 3) dX9_debt_2 (by decide) ?_
  refine AWT_callS (M' := MX9_in) (pc := 3) [.int l, .int 0, .int 3] [] nmX9_in ⟨rfl, rfl⟩ (ML.o q1180) q1181 q82 q1182 dX9_debt_3 rfl rfl (Nat.le_of_ble_eq_true rfl) ⟨Nat.le_of_ble_eq_true rfl, Nat.le_of_ble_eq_true rfl⟩ (mcX9_in f g e l 0 3 ) ?_
  rintro _ _ _ _ ⟨rfl, rfl, rfl, rfl⟩
  refine AWT_ifb_eq (pc := 6) (tgt := 17) dX9_debt_6 (by decide) (fun c1 => ?_) (fun c1 => ?_)
  · have hv := hv.1 c1
    refine AWT_ldcw (pc := 17) q1469 dX9_debt_17 ?_
    exact AWT_iret (pc := 20) rfl rfl dX9_debt_20 hv
  · have hv := hv.2 c1
    refine AWT_aload_n (pc := 9) dX9_debt_9 rfl 0 rfl ?_
    refine AWT_iload_n (pc := 10) dX9_debt_10 rfl 1 rfl ?_
    have p2 := hv.1
    have hv := hv.2
    refine AWT_callV (M' := MX9_debtOf) (pc := 11) [.int l] [] rfl nmX9_debtOf ⟨rfl, rfl⟩ (ML.o q1465) q1467 qs71 q82 q1468 dX9_debt_11 rfl rfl (Nat.le_of_ble_eq_true rfl) ⟨Nat.le_of_ble_eq_true rfl, Nat.le_of_ble_eq_true rfl⟩ (mcX9_debtOf f g e l p2) ?_
    rintro _ _ _ _ ⟨rfl, rfl, rfl, rfl⟩
    refine AWT_goto (pc := 14) (tgt := 20) dX9_debt_14 (by decide) ?_
    exact AWT_iret (pc := 20) rfl rfl dX9_debt_20 hv
theorem mcX9_debt {G : Gl} {o : Nat} {ad : Nat → Nat} (f : Tf) (g : Tg) (e : Te) (l : Int32)  : MCT G o ad MX9_debt [.ref o, .int l] f g e (fun v0 f1 g1 e1 => v0 = some (.int (rDebt g l)) ∧ f = f1 ∧ g = g1 ∧ e = e1) := by
  refine MCT.of ⟨rfl, rfl⟩ (by decide) (Nat.le_of_ble_eq_true rfl) rfl (fun h0 => vcX9_debt_0 f g e l ?_)
  exact ⟨fun c => by simp [rDebt, c], fun c => ⟨inB_in (b := 3) rfl (by decide) (by decide) c, by simp [rDebt, c]⟩⟩
def nxtS (g : Tg) (b l : Int32) : Int32 := if debtS g l ≤ debtS g b then b else l
def rNext (g : Tg) : Int32 := nxtS g (nxtS g (nxtS g 0 1) 2) 3
theorem nxtS_in {g : Tg} {b l : Int32} (hb : vp_in b 4) (hl : vp_in l 4) : vp_in (nxtS g b l) 4 := by
  unfold nxtS
  split <;> assumption
abbrev MX9_next : Mi := (yX9_next, cX9_next, 3, some .int, { frames := 1, cells := 0, slots := 0, locals := 24 })
theorem nmX9_next : Nm yX9_next 0 := ⟨by decide +kernel, by decide +kernel, by decide +kernel⟩
theorem vcX9_next_0 {G : Gl} {o : Nat} {ad : Nat → Nat} {h0 : Hp} {Q : Option Value → Tf → Tg → Te → Prop} (f : Tf) (g : Tg) (e : Te)  (hv : AWT G o ad h0 MX9_next Q f g e 4 [(0, .ref o), (1, .int 0), (2, .int 1)] []) :
    AWT G o ad h0 MX9_next Q f g e 0 [(0, .ref o)] [] := by
  refine AWT_iconst (pc := 0) (v := 0) dX9_next_0 (by decide) ?_
  refine AWT_istore_n (pc := 1) (lv' := [(1, .int 0), (0, .ref o)]) dX9_next_1 rfl (by decide) rfl ?_
  refine AWT_iconst (pc := 2) (v := 1) dX9_next_2 (by decide) ?_
  refine AWT_istore_n (pc := 3) (lv' := [(2, .int 1), (1, .int 0), (0, .ref o)]) dX9_next_3 rfl (by decide) rfl ?_
  refine AWT_lv (lv' := [(0, .ref o), (1, .int 0), (2, .int 1)]) [2, 1, 0] rfl ?_
  exact hv
theorem vcX9_next_4 {G : Gl} {o : Nat} {ad : Nat → Nat} {h0 : Hp} {Q : Option Value → Tf → Tg → Te → Prop} (f : Tf) (g : Tg) (e : Te) (b : Int32) (l : Int32) (hv : ((4 ≤ l → Q (some (.int b)) f g e) ∧ (¬ 4 ≤ l → (vp_in l 4) ∧ (vp_in b 4) ∧ (((debtS g l) ≤ (debtS g b) → AWT G o ad h0 MX9_next Q f g e 4 [(0, .ref o), (1, .int b), (2, .int (l + 1))] []) ∧ (¬ (debtS g l) ≤ (debtS g b) → AWT G o ad h0 MX9_next Q f g e 4 [(0, .ref o), (1, .int l), (2, .int (l + 1))] []))))) :
    AWT G o ad h0 MX9_next Q f g e 4 [(0, .ref o), (1, .int b), (2, .int l)] [] := by
  refine AWT_iload_n (pc := 4) dX9_next_4 rfl 2 rfl ?_
  refine AWT_iconst (pc := 5) (v := 4) dX9_next_5 (by decide) ?_
  refine AWT_icmp_ge (pc := 6) (tgt := 34) dX9_next_6 (by decide) (fun c1 => ?_) (fun c1 => ?_)
  · have hv := hv.1 c1
    refine AWT_iload_n (pc := 34) dX9_next_34 rfl 1 rfl ?_
    exact AWT_iret (pc := 35) rfl rfl dX9_next_35 hv
  · have hv := hv.2 c1
    refine AWT_aload_n (pc := 9) dX9_next_9 rfl 0 rfl ?_
    refine AWT_iload_n (pc := 10) dX9_next_10 rfl 2 rfl ?_
    have p2 := hv.1
    have hv := hv.2
    refine AWT_callV (M' := MX9_debtOf) (pc := 11) [.int l] [] rfl nmX9_debtOf ⟨rfl, rfl⟩ (ML.o q1465) q1467 qs71 q82 q1468 dX9_next_11 rfl rfl (Nat.le_of_ble_eq_true rfl) ⟨Nat.le_of_ble_eq_true rfl, Nat.le_of_ble_eq_true rfl⟩ (mcX9_debtOf f g e l p2) ?_
    rintro _ _ _ _ ⟨rfl, rfl, rfl, rfl⟩
    refine AWT_aload_n (pc := 14) dX9_next_14 rfl 0 rfl ?_
    refine AWT_iload_n (pc := 15) dX9_next_15 rfl 1 rfl ?_
    have p3 := hv.1
    have hv := hv.2
    refine AWT_callV (M' := MX9_debtOf) (pc := 16) [.int b] [.int (debtS g l)] rfl nmX9_debtOf ⟨rfl, rfl⟩ (ML.o q1465) q1467 qs71 q82 q1468 dX9_next_16 rfl rfl (Nat.le_of_ble_eq_true rfl) ⟨Nat.le_of_ble_eq_true rfl, Nat.le_of_ble_eq_true rfl⟩ (mcX9_debtOf f g e b p3) ?_
    rintro _ _ _ _ ⟨rfl, rfl, rfl, rfl⟩
    refine AWT_icmp_le (pc := 19) (tgt := 26) dX9_next_19 (by decide) (fun c4 => ?_) (fun c4 => ?_)
    · have hv := hv.1 c4
      refine AWT_iload_n (pc := 26) dX9_next_26 rfl 1 rfl ?_
      refine AWT_istore_n (pc := 27) (lv' := [(1, .int b), (0, .ref o), (2, .int l)]) dX9_next_27 rfl (by decide) rfl ?_
      refine AWT_iinc (pc := 28) (v := l + 1) (lv' := [(2, .int (l + 1)), (1, .int b), (0, .ref o)]) dX9_next_28 2 rfl rfl (by decide) rfl ?_
      refine AWT_goto (pc := 31) (tgt := 4) dX9_next_31 (by decide) ?_
      refine AWT_lv (lv' := [(0, .ref o), (1, .int b), (2, .int (l + 1))]) [2, 1, 0] rfl ?_
      exact hv
    · have hv := hv.2 c4
      refine AWT_iload_n (pc := 22) dX9_next_22 rfl 2 rfl ?_
      refine AWT_goto (pc := 23) (tgt := 27) dX9_next_23 (by decide) ?_
      refine AWT_istore_n (pc := 27) (lv' := [(1, .int l), (0, .ref o), (2, .int l)]) dX9_next_27 rfl (by decide) rfl ?_
      refine AWT_iinc (pc := 28) (v := l + 1) (lv' := [(2, .int (l + 1)), (1, .int l), (0, .ref o)]) dX9_next_28 2 rfl rfl (by decide) rfl ?_
      refine AWT_goto (pc := 31) (tgt := 4) dX9_next_31 (by decide) ?_
      refine AWT_lv (lv' := [(0, .ref o), (1, .int l), (2, .int (l + 1))]) [2, 1, 0] rfl ?_
      exact hv
theorem mcX9_next {G : Gl} {o : Nat} {ad : Nat → Nat} (f : Tf) (g : Tg) (e : Te)   : MCT G o ad MX9_next [.ref o] f g e (fun v0 f1 g1 e1 => v0 = some (.int (rNext g)) ∧ f = f1 ∧ g = g1 ∧ e = e1) := by
  refine MCT.of ⟨rfl, rfl⟩ (by decide) (Nat.le_of_ble_eq_true rfl) rfl (fun h0 => vcX9_next_0 f g e  ?_)
  have step : ∀ (b l : Int32), vp_in b 4 → vp_in l 4 → ¬ 4 ≤ l → AWT G o ad h0 MX9_next (fun v0 f1 g1 e1 => v0 = some (.int (rNext g)) ∧ f = f1 ∧ g = g1 ∧ e = e1) f g e 4 [(0, .ref o), (1, .int (nxtS g b l)), (2, .int (l + 1))] [] → AWT G o ad h0 MX9_next (fun v0 f1 g1 e1 => v0 = some (.int (rNext g)) ∧ f = f1 ∧ g = g1 ∧ e = e1) f g e 4 [(0, .ref o), (1, .int b), (2, .int l)] [] := by
    intro b l hb hl h4 ih
    refine vcX9_next_4 f g e _ _ (br_f h4 ⟨hl, hb, fun c => ?_, fun c => ?_⟩)
    · rw [nxtS, if_pos c] at ih
      exact ih
    · rw [nxtS, if_neg c] at ih
      exact ih
  have i0 : vp_in 0 4 := pk_in 0 4 (by decide)
  have i1 : vp_in 1 4 := pk_in 1 4 (by decide)
  have i2 : vp_in 2 4 := pk_in 2 4 (by decide)
  have i3 : vp_in 3 4 := pk_in 3 4 (by decide)
  refine step 0 1 i0 i1 (by decide) (step _ 2 (nxtS_in i0 i1) i2 (by decide) (step _ 3 (nxtS_in (nxtS_in i0 i1) i2) i3 (by decide) ?_))
  exact vcX9_next_4 f g e _ _ (br_t (by decide) ⟨rfl, rfl, rfl, rfl⟩)
def rmG (g : Tg) (p j : Nat) : Tg := fun a i => if a = 22 ∧ 23 * p ≤ i ∧ i < j then g 22 (i + 23) else g a i
theorem rmG_0 (g : Tg) (p : Nat) : rmG g p (23 * p) = g := by
  funext a i
  unfold rmG
  rw [if_neg (by omega)]
theorem rmG_s (g : Tg) (p j : Nat) (hj : 23 * p ≤ j) : up2 (rmG g p j) 22 j (rmG g p j 22 (j + 23)) = rmG g p (j + 1) := by
  have e : rmG g p j 22 (j + 23) = g 22 (j + 23) := by
    unfold rmG
    rw [if_neg (by omega)]
  rw [e]
  funext a i
  unfold up2 rmG
  by_cases h : a = 22
  · subst h
    by_cases h2 : i = j
    · subst h2
      simp [hj]
    · simp only [h2, true_and, and_false, if_false]
      by_cases h3 : 23 * p ≤ i ∧ i < j
      · rw [if_pos h3, if_pos (by omega)]
      · rw [if_neg h3, if_neg (by omega)]
  · simp [h]
def fRem (f : Tf) : Tf := upd f 21 (f 21 - 1)
def gRem (f : Tf) (g : Tg) (p : Int32) : Tg := rmG g p.toNatClampNeg (23 * ((f 21).toNatClampNeg - 1))
abbrev MX9_remove : Mi := (yX9_remove, cX9_remove, 3, none, { frames := 0, cells := 0, slots := 0, locals := 0 })
theorem nmX9_remove : Nm yX9_remove 1 := ⟨by decide +kernel, by decide +kernel, by decide +kernel⟩
theorem vcX9_remove_0 {G : Gl} {o : Nat} {ad : Nat → Nat} {h0 : Hp} {Q : Option Value → Tf → Tg → Te → Prop} (f : Tf) (g : Tg) (e : Te) (p : Int32) (hv : AWT G o ad h0 MX9_remove Q (upd f 21 ((f 21) - 1)) g e 15 [(0, .ref o), (2, .int (23 * p))] []) :
    AWT G o ad h0 MX9_remove Q f g e 0 [(0, .ref o), (1, .int p)] [] := by
  refine AWT_aload_n (pc := 0) dX9_remove_0 rfl 0 rfl ?_
  refine AWT_dup (pc := 1) dX9_remove_1 rfl ?_
  refine AWT_getI (pc := 2) 21 (by decide) rfl (FL.o q1064) dX9_remove_2 ?_
  refine AWT_iconst (pc := 5) (v := 1) dX9_remove_5 (by decide) ?_
  refine AWT_isub (pc := 6) dX9_remove_6 ?_
  refine AWT_putI (pc := 7) 21 (by decide) rfl (FL.o q1064) rfl dX9_remove_7 ?_
  refine AWT_bipush (pc := 10) (v := 23) dX9_remove_10 (by decide) ?_
  refine AWT_iload_n (pc := 12) dX9_remove_12 rfl 1 rfl ?_
  refine AWT_imul (pc := 13) dX9_remove_13 ?_
  refine AWT_istore_n (pc := 14) (lv' := [(2, .int (23 * p)), (0, .ref o), (1, .int p)]) dX9_remove_14 rfl (by decide) rfl ?_
  refine AWT_lv (lv' := [(0, .ref o), (2, .int (23 * p))]) [1, 0] rfl ?_
  exact hv
theorem vcX9_remove_15 {G : Gl} {o : Nat} {ad : Nat → Nat} {h0 : Hp} {Q : Option Value → Tf → Tg → Te → Prop} (f : Tf) (g : Tg) (e : Te) (k : Int32) (hv : (((23 * (f 21)) ≤ k → Q none f g e) ∧ (¬ (23 * (f 21)) ≤ k → vp_in (k + 23) 138 ∧ vp_in k 138 ∧ AWT G o ad h0 MX9_remove Q f (up2 g 22 k.toNatClampNeg (g 22 (k + 23).toNatClampNeg)) e 15 [(0, .ref o), (2, .int (k + 1))] []))) :
    AWT G o ad h0 MX9_remove Q f g e 15 [(0, .ref o), (2, .int k)] [] := by
  refine AWT_iload_n (pc := 15) dX9_remove_15 rfl 1 rfl ?_
  refine AWT_bipush (pc := 16) (v := 23) dX9_remove_16 (by decide) ?_
  refine AWT_aload_n (pc := 18) dX9_remove_18 rfl 0 rfl ?_
  refine AWT_getI (pc := 19) 21 (by decide) rfl (FL.o q1064) dX9_remove_19 ?_
  refine AWT_imul (pc := 22) dX9_remove_22 ?_
  refine AWT_icmp_ge (pc := 23) (tgt := 47) dX9_remove_23 (by decide) (fun c1 => ?_) (fun c1 => ?_)
  · have hv := hv.1 c1
    exact AWT_vret (pc := 47) rfl dX9_remove_47 hv
  · have hv := hv.2 c1
    refine AWT_aload_n (pc := 26) dX9_remove_26 rfl 0 rfl ?_
    refine AWT_getA (pc := 27) 22 (by decide) rfl rfl (FL.o q1065) dX9_remove_27 ?_
    refine AWT_iload_n (pc := 30) dX9_remove_30 rfl 1 rfl ?_
    refine AWT_aload_n (pc := 31) dX9_remove_31 rfl 0 rfl ?_
    refine AWT_getA (pc := 32) 22 (by decide) rfl rfl (FL.o q1065) dX9_remove_32 ?_
    refine AWT_iload_n (pc := 35) dX9_remove_35 rfl 1 rfl ?_
    refine AWT_bipush (pc := 36) (v := 23) dX9_remove_36 (by decide) ?_
    refine AWT_iadd (pc := 38) dX9_remove_38 ?_
    refine AWT_iald (pc := 39) (k := 22) (n := 138) rfl dX9_remove_39 hv.1 ?_
    have hv := hv.2
    refine AWT_iast (pc := 40) (k := 22) (n := 138) rfl dX9_remove_40 hv.1 ?_
    have hv := hv.2
    refine AWT_iinc (pc := 41) (v := k + 1) (lv' := [(2, .int (k + 1)), (0, .ref o)]) dX9_remove_41 1 rfl rfl (by decide) rfl ?_
    refine AWT_goto (pc := 44) (tgt := 15) dX9_remove_44 (by decide) ?_
    refine AWT_lv (lv' := [(0, .ref o), (2, .int (k + 1))]) [1, 0] rfl ?_
    exact hv
theorem mcX9_remove {G : Gl} {o : Nat} {ad : Nat → Nat} (f : Tf) (g : Tg) (e : Te) (p : Int32) (h1 : ∃ a n : Nat, p = nI a ∧ a < n ∧ n ≤ 5 ∧ f 21 = nI n) : MCT G o ad MX9_remove [.ref o, .int p] f g e (fun v0 f1 g1 e1 => v0 = none ∧ fRem f = f1 ∧ gRem f g p = g1 ∧ e = e1) := by
  refine MCT.of ⟨rfl, rfl⟩ (by decide) (Nat.le_of_ble_eq_true rfl) rfl (fun h0 => vcX9_remove_0 f g e p ?_)
  obtain ⟨a, n, rfl, han, hn5, hn⟩ := h1
  have e1 : upd f 21 (f 21 - 1) 21 = nI (n - 1) := by
    rw [upd_s, hn]
    exact pk_sub (b := 1) (by omega)
  have e2 : (23 : Int32) * nI a = nI (23 * a) := lm 23 a
  rw [e2, ← rmG_0 g a]
  refine loopUp (A := fun j => 23 * a ≤ j → AWT G o ad h0 MX9_remove _ (upd f 21 (f 21 - 1)) (rmG g a j) e 15 [(0, .ref o), (2, .int (nI j))] []) (23 * (n - 1)) ?_ ?_ (23 * a) (by omega) (Nat.le_refl _)
  · intro _
    refine vcX9_remove_15 _ _ e _ ?_
    rw [e1, lm 23 (n - 1)]
    refine pk_le (23 * (n - 1)) (23 * (n - 1)) (fun _ => ?_) (fun z => by omega)
    refine ⟨rfl, rfl, ?_, rfl⟩
    rw [gRem, hn, nc n, nc a, rmG_0]
  · intro j hj ih haj
    refine vcX9_remove_15 _ _ e _ ?_
    rw [e1, lm 23 (n - 1)]
    refine pk_le (23 * (n - 1)) j (fun z => by omega) (fun _ => ?_)
    rw [ra j 23]
    refine ⟨vp_in_nI (by omega) (by decide), vp_in_nI (by omega) (by decide), ?_⟩
    rw [nc j, nc (j + 23), rmG_s _ _ _ haj, nI_1]
    exact ih (by omega)
def rDrop (f : Tf) (p : Int32) : Int32 := if inB p 0 (f 21 - 1) then 1 else -2
def fDrop (f : Tf) (p : Int32) : Tf := if inB p 0 (f 21 - 1) then fRem f else f
def gDrop (f : Tf) (g : Tg) (p : Int32) : Tg := if inB p 0 (f 21 - 1) then gRem f g p else g
abbrev MX9_drop : Mi := (yX9_drop, cX9_drop, 2, some .int, { frames := 2, cells := 0, slots := 0, locals := 43 })
theorem nmX9_drop : Nm yX9_drop 1 := ⟨by decide +kernel, by decide +kernel, by decide +kernel⟩
theorem vcX9_drop_0 {G : Gl} {o : Nat} {ad : Nat → Nat} {h0 : Hp} {Q : Option Value → Tf → Tg → Te → Prop} (f : Tf) (g : Tg) (e : Te) (p : Int32) (hv : (((inB p 0 (f 21 - 1)) = true → (∃ a n : Nat, p = nI a ∧ a < n ∧ n ≤ 5 ∧ f 21 = nI n) ∧ Q (some (.int 1)) (fRem f) (gRem f g p) e) ∧ ((inB p 0 (f 21 - 1)) = false → Q (some (.int (-2))) f g e))) :
    AWT G o ad h0 MX9_drop Q f g e 0 [(0, .ref o), (1, .int p)] [] := by
  refine AWT_aload_n (pc := 0) dX9_drop_0 rfl 0 rfl ?_
  refine AWT_iload_n (pc := 1) dX9_drop_1 rfl 1 rfl ?_
  refine AWT_callV (M' := MX9_isPlan) (pc := 2) [.int p] [] rfl nmX9_isPlan ⟨rfl, rfl⟩ (ML.o q1286) q1288 qs47 q82 q1289 dX9_drop_2 rfl rfl (Nat.le_of_ble_eq_true rfl) ⟨Nat.le_of_ble_eq_true rfl, Nat.le_of_ble_eq_true rfl⟩ (mcX9_isPlan f g e p ) ?_
  rintro _ _ _ _ ⟨rfl, rfl, rfl, rfl⟩
  refine AWT_ifb_ne (pc := 5) (tgt := 11) dX9_drop_5 (by decide) (fun c1 => ?_) (fun c1 => ?_)
  · have hv := hv.1 c1
    refine AWT_aload_n (pc := 11) dX9_drop_11 rfl 0 rfl ?_
    refine AWT_iload_n (pc := 12) dX9_drop_12 rfl 1 rfl ?_
    have p2 := hv.1
    have hv := hv.2
    refine AWT_callV (M' := MX9_remove) (pc := 13) [.int p] [] rfl nmX9_remove ⟨rfl, rfl⟩ (ML.o q1290) q1292 qs48 q82 q1293 dX9_drop_13 rfl rfl (Nat.le_of_ble_eq_true rfl) ⟨Nat.le_of_ble_eq_true rfl, Nat.le_of_ble_eq_true rfl⟩ (mcX9_remove f g e p p2) ?_
    rintro _ _ _ _ ⟨rfl, rfl, rfl, rfl⟩
    refine AWT_iconst (pc := 16) (v := 1) dX9_drop_16 (by decide) ?_
    exact AWT_iret (pc := 17) rfl rfl dX9_drop_17 hv
  · have hv := hv.2 c1
    refine AWT_bipush (pc := 8) (v := (-2)) dX9_drop_8 (by decide) ?_
    exact AWT_iret (pc := 10) rfl rfl dX9_drop_10 hv
theorem mcX9_drop {G : Gl} {o : Nat} {ad : Nat → Nat} (f : Tf) (g : Tg) (e : Te) (p : Int32) (h1 : MI f g) : MCT G o ad MX9_drop [.ref o, .int p] f g e (fun v0 f1 g1 e1 => v0 = some (.int (rDrop f p)) ∧ fDrop f p = f1 ∧ gDrop f g p = g1 ∧ e = e1) := by
  refine MCT.of ⟨rfl, rfl⟩ (by decide) (Nat.le_of_ble_eq_true rfl) rfl (fun h0 => vcX9_drop_0 f g e p ?_)
  refine ⟨fun c => ?_, fun c => by simp [rDrop, fDrop, gDrop, c]⟩
  obtain ⟨a, n, hp, ha, hn, hn5, han, -⟩ := h1.plan c
  exact ⟨⟨a, n, hp, han, hn5, hn⟩, by simp [rDrop, fDrop, gDrop, c]⟩
def rWorth (f : Tf) (g : Tg) (p v : Int32) : Int32 := if inB p 0 (f 21 - 1) then (if inB v 1 99 then g 22 (23 * p + 3).toNatClampNeg else -3) else -2
def gWorth (f : Tf) (g : Tg) (p v : Int32) : Tg := if inB p 0 (f 21 - 1) && inB v 1 99 then up2 g 22 (23 * p + 3).toNatClampNeg v else g
abbrev MX9_worth : Mi := (yX9_worth, cX9_worth, 4, some .int, { frames := 2, cells := 0, slots := 0, locals := 43 })
theorem nmX9_worth : Nm yX9_worth 2 := ⟨by decide +kernel, by decide +kernel, by decide +kernel⟩
theorem vcX9_worth_0 {G : Gl} {o : Nat} {ad : Nat → Nat} {h0 : Hp} {Q : Option Value → Tf → Tg → Te → Prop} (f : Tf) (g : Tg) (e : Te) (p : Int32) (v : Int32) (hv : (((inB p 0 (f 21 - 1)) = true → (((inB v 1 99) = true → vp_in ((23 * p) + 3) 138 ∧ vp_in ((23 * p) + 3) 138 ∧ Q (some (.int (g 22 ((23 * p) + 3).toNatClampNeg))) f (up2 g 22 ((23 * p) + 3).toNatClampNeg v) e) ∧ ((inB v 1 99) = false → Q (some (.int (-3))) f g e))) ∧ ((inB p 0 (f 21 - 1)) = false → Q (some (.int (-2))) f g e))) :
    AWT G o ad h0 MX9_worth Q f g e 0 [(0, .ref o), (1, .int p), (2, .int v)] [] := by
  refine AWT_aload_n (pc := 0) dX9_worth_0 rfl 0 rfl ?_
  refine AWT_iload_n (pc := 1) dX9_worth_1 rfl 1 rfl ?_
  refine AWT_callV (M' := MX9_isPlan) (pc := 2) [.int p] [] rfl nmX9_isPlan ⟨rfl, rfl⟩ (ML.o q1286) q1288 qs47 q82 q1289 dX9_worth_2 rfl rfl (Nat.le_of_ble_eq_true rfl) ⟨Nat.le_of_ble_eq_true rfl, Nat.le_of_ble_eq_true rfl⟩ (mcX9_isPlan f g e p ) ?_
  rintro _ _ _ _ ⟨rfl, rfl, rfl, rfl⟩
  refine AWT_ifb_ne (pc := 5) (tgt := 11) dX9_worth_5 (by decide) (fun c1 => ?_) (fun c1 => ?_)
  · have hv := hv.1 c1
    refine AWT_iload_n (pc := 11) dX9_worth_11 rfl 2 rfl ?_
    refine AWT_iconst (pc := 12) (v := 1) dX9_worth_12 (by decide) ?_
    refine AWT_bipush (pc := 13) (v := 99) dX9_worth_13 (by decide) ?_
    refine AWT_callS (M' := MX9_in) (pc := 15) [.int v, .int 1, .int 99] [] nmX9_in ⟨rfl, rfl⟩ (ML.o q1180) q1181 q82 q1182 dX9_worth_15 rfl rfl (Nat.le_of_ble_eq_true rfl) ⟨Nat.le_of_ble_eq_true rfl, Nat.le_of_ble_eq_true rfl⟩ (mcX9_in f g e v 1 99 ) ?_
    rintro _ _ _ _ ⟨rfl, rfl, rfl, rfl⟩
    refine AWT_ifb_ne (pc := 18) (tgt := 24) dX9_worth_18 (by decide) (fun c2 => ?_) (fun c2 => ?_)
    · have hv := hv.1 c2
      refine AWT_aload_n (pc := 24) dX9_worth_24 rfl 0 rfl ?_
      refine AWT_getA (pc := 25) 22 (by decide) rfl rfl (FL.o q1065) dX9_worth_25 ?_
      refine AWT_bipush (pc := 28) (v := 23) dX9_worth_28 (by decide) ?_
      refine AWT_iload_n (pc := 30) dX9_worth_30 rfl 1 rfl ?_
      refine AWT_imul (pc := 31) dX9_worth_31 ?_
      refine AWT_iconst (pc := 32) (v := 3) dX9_worth_32 (by decide) ?_
      refine AWT_iadd (pc := 33) dX9_worth_33 ?_
      refine AWT_iald (pc := 34) (k := 22) (n := 138) rfl dX9_worth_34 hv.1 ?_
      have hv := hv.2
      refine AWT_istore_n (pc := 35) (lv' := [(3, .int (g 22 ((23 * p) + 3).toNatClampNeg)), (0, .ref o), (1, .int p), (2, .int v)]) dX9_worth_35 rfl (by decide) rfl ?_
      refine AWT_aload_n (pc := 36) dX9_worth_36 rfl 1 rfl ?_
      refine AWT_getA (pc := 37) 22 (by decide) rfl rfl (FL.o q1065) dX9_worth_37 ?_
      refine AWT_bipush (pc := 40) (v := 23) dX9_worth_40 (by decide) ?_
      refine AWT_iload_n (pc := 42) dX9_worth_42 rfl 2 rfl ?_
      refine AWT_imul (pc := 43) dX9_worth_43 ?_
      refine AWT_iconst (pc := 44) (v := 3) dX9_worth_44 (by decide) ?_
      refine AWT_iadd (pc := 45) dX9_worth_45 ?_
      refine AWT_iload_n (pc := 46) dX9_worth_46 rfl 3 rfl ?_
      refine AWT_iast (pc := 47) (k := 22) (n := 138) rfl dX9_worth_47 hv.1 ?_
      have hv := hv.2
      refine AWT_iload_n (pc := 48) dX9_worth_48 rfl 0 rfl ?_
      exact AWT_iret (pc := 49) rfl rfl dX9_worth_49 hv
    · have hv := hv.2 c2
      refine AWT_bipush (pc := 21) (v := (-3)) dX9_worth_21 (by decide) ?_
      exact AWT_iret (pc := 23) rfl rfl dX9_worth_23 hv
  · have hv := hv.2 c1
    refine AWT_bipush (pc := 8) (v := (-2)) dX9_worth_8 (by decide) ?_
    exact AWT_iret (pc := 10) rfl rfl dX9_worth_10 hv
theorem mcX9_worth {G : Gl} {o : Nat} {ad : Nat → Nat} (f : Tf) (g : Tg) (e : Te) (p : Int32) (v : Int32) (h1 : MI f g) : MCT G o ad MX9_worth [.ref o, .int p, .int v] f g e (fun v0 f1 g1 e1 => v0 = some (.int (rWorth f g p v)) ∧ f = f1 ∧ gWorth f g p v = g1 ∧ e = e1) := by
  refine MCT.of ⟨rfl, rfl⟩ (by decide) (Nat.le_of_ble_eq_true rfl) rfl (fun h0 => vcX9_worth_0 f g e p v ?_)
  refine ⟨fun c => ⟨fun c2 => ?_, fun c2 => by simp [rWorth, gWorth, c, c2]⟩, fun c => by simp [rWorth, gWorth, c]⟩
  have hin : vp_in (23 * p + 3) 138 := by
    obtain ⟨a, n, rfl, ha, -⟩ := h1.plan c
    rw [lm 23 a, ra _ 3]
    exact vp_in_nI (by omega) (by decide)
  exact ⟨hin, hin, by simp [rWorth, gWorth, c, c2]⟩
def rTold (f : Tf) (g : Tg) (p w : Int32) : Int32 := if inB p 0 (f 21 - 1) then (if inB w 0 4 then g 22 (23 * p + w).toNatClampNeg else if inB w 10 35 then (if w - w / 10 * 10 ≤ (if w / 10 - 1 = 0 then 3 else 5) then g 22 (23 * p + 5 + 6 * (w / 10 - 1) + (w - w / 10 * 10)).toNatClampNeg else -3) else -3) else -2
abbrev MX9_told : Mi := (yX9_told, cX9_told, 5, some .int, { frames := 2, cells := 0, slots := 0, locals := 43 })
theorem nmX9_told : Nm yX9_told 2 := ⟨by decide +kernel, by decide +kernel, by decide +kernel⟩
theorem vcX9_told_0 {G : Gl} {o : Nat} {ad : Nat → Nat} {h0 : Hp} {Q : Option Value → Tf → Tg → Te → Prop} (f : Tf) (g : Tg) (e : Te) (p : Int32) (w : Int32) (hv : (((inB p 0 (f 21 - 1)) = true → (((inB w 0 4) = false → (((inB w 10 35) = false → Q (some (.int (-3))) f g e) ∧ ((inB w 10 35) = true → ((¬ ((w / 10) - 1) = 0 → (((w - w / 10 * 10) ≤ 5 → vp_in ((((23 * p) + 5) + (6 * ((w / 10) - 1))) + (w - w / 10 * 10)) 138 ∧ Q (some (.int (g 22 ((((23 * p) + 5) + (6 * ((w / 10) - 1))) + (w - w / 10 * 10)).toNatClampNeg))) f g e) ∧ (¬ (w - w / 10 * 10) ≤ 5 → Q (some (.int (-3))) f g e))) ∧ (((w / 10) - 1) = 0 → (((w - w / 10 * 10) ≤ 3 → vp_in ((((23 * p) + 5) + (6 * ((w / 10) - 1))) + (w - w / 10 * 10)) 138 ∧ Q (some (.int (g 22 ((((23 * p) + 5) + (6 * ((w / 10) - 1))) + (w - w / 10 * 10)).toNatClampNeg))) f g e) ∧ (¬ (w - w / 10 * 10) ≤ 3 → Q (some (.int (-3))) f g e))))))) ∧ ((inB w 0 4) = true → vp_in ((23 * p) + w) 138 ∧ Q (some (.int (g 22 ((23 * p) + w).toNatClampNeg))) f g e))) ∧ ((inB p 0 (f 21 - 1)) = false → Q (some (.int (-2))) f g e))) :
    AWT G o ad h0 MX9_told Q f g e 0 [(0, .ref o), (1, .int p), (2, .int w)] [] := by
  refine AWT_aload_n (pc := 0) dX9_told_0 rfl 0 rfl ?_
  refine AWT_iload_n (pc := 1) dX9_told_1 rfl 1 rfl ?_
  refine AWT_callV (M' := MX9_isPlan) (pc := 2) [.int p] [] rfl nmX9_isPlan ⟨rfl, rfl⟩ (ML.o q1286) q1288 qs47 q82 q1289 dX9_told_2 rfl rfl (Nat.le_of_ble_eq_true rfl) ⟨Nat.le_of_ble_eq_true rfl, Nat.le_of_ble_eq_true rfl⟩ (mcX9_isPlan f g e p ) ?_
  rintro _ _ _ _ ⟨rfl, rfl, rfl, rfl⟩
  refine AWT_ifb_ne (pc := 5) (tgt := 11) dX9_told_5 (by decide) (fun c1 => ?_) (fun c1 => ?_)
  · have hv := hv.1 c1
    refine AWT_iload_n (pc := 11) dX9_told_11 rfl 2 rfl ?_
    refine AWT_iconst (pc := 12) (v := 0) dX9_told_12 (by decide) ?_
    refine AWT_iconst (pc := 13) (v := 4) dX9_told_13 (by decide) ?_
    refine AWT_callS (M' := MX9_in) (pc := 14) [.int w, .int 0, .int 4] [] nmX9_in ⟨rfl, rfl⟩ (ML.o q1180) q1181 q82 q1182 dX9_told_14 rfl rfl (Nat.le_of_ble_eq_true rfl) ⟨Nat.le_of_ble_eq_true rfl, Nat.le_of_ble_eq_true rfl⟩ (mcX9_in f g e w 0 4 ) ?_
    rintro _ _ _ _ ⟨rfl, rfl, rfl, rfl⟩
    refine AWT_ifb_eq (pc := 17) (tgt := 32) dX9_told_17 (by decide) (fun c2 => ?_) (fun c2 => ?_)
    · have hv := hv.1 c2
      refine AWT_iload_n (pc := 32) dX9_told_32 rfl 2 rfl ?_
      refine AWT_bipush (pc := 33) (v := 10) dX9_told_33 (by decide) ?_
      refine AWT_idiv (pc := 35) dX9_told_35 (by decide) ?_
      refine AWT_iconst (pc := 36) (v := 1) dX9_told_36 (by decide) ?_
      refine AWT_isub (pc := 37) dX9_told_37 ?_
      refine AWT_istore_n (pc := 38) (lv' := [(3, .int ((w / 10) - 1)), (0, .ref o), (1, .int p), (2, .int w)]) dX9_told_38 rfl (by decide) rfl ?_
      refine AWT_iload_n (pc := 39) dX9_told_39 rfl 3 rfl ?_
      refine AWT_bipush (pc := 40) (v := 10) dX9_told_40 (by decide) ?_
      refine AWT_irem (pc := 42) dX9_told_42 (by decide) ?_
      refine AWT_istore (pc := 43) (lv' := [(4, .int (w - w / 10 * 10)), (3, .int ((w / 10) - 1)), (0, .ref o), (1, .int p), (2, .int w)]) dX9_told_43 (by decide) rfl ?_
      refine AWT_iload_n (pc := 45) dX9_told_45 rfl 4 rfl ?_
      refine AWT_bipush (pc := 46) (v := 10) dX9_told_46 (by decide) ?_
      refine AWT_bipush (pc := 48) (v := 35) dX9_told_48 (by decide) ?_
      refine AWT_callS (M' := MX9_in) (pc := 50) [.int w, .int 10, .int 35] [] nmX9_in ⟨rfl, rfl⟩ (ML.o q1180) q1181 q82 q1182 dX9_told_50 rfl rfl (Nat.le_of_ble_eq_true rfl) ⟨Nat.le_of_ble_eq_true rfl, Nat.le_of_ble_eq_true rfl⟩ (mcX9_in f g e w 10 35 ) ?_
      rintro _ _ _ _ ⟨rfl, rfl, rfl, rfl⟩
      refine AWT_ifb_eq (pc := 53) (tgt := 70) dX9_told_53 (by decide) (fun c3 => ?_) (fun c3 => ?_)
      · have hv := hv.1 c3
        refine AWT_bipush (pc := 70) (v := (-3)) dX9_told_70 (by decide) ?_
        exact AWT_iret (pc := 72) rfl rfl dX9_told_72 hv
      · have hv := hv.2 c3
        refine AWT_iload (pc := 56) dX9_told_56 0 rfl ?_
        refine AWT_iload_n (pc := 58) dX9_told_58 rfl 1 rfl ?_
        refine AWT_if_ne (pc := 59) (tgt := 66) dX9_told_59 (by decide) (fun c4 => ?_) (fun c4 => ?_)
        · have hv := hv.1 c4
          refine AWT_iconst (pc := 66) (v := 5) dX9_told_66 (by decide) ?_
          refine AWT_icmp_le (pc := 67) (tgt := 73) dX9_told_67 (by decide) (fun c5 => ?_) (fun c5 => ?_)
          · have hv := hv.1 c5
            refine AWT_aload_n (pc := 73) dX9_told_73 rfl 2 rfl ?_
            refine AWT_getA (pc := 74) 22 (by decide) rfl rfl (FL.o q1065) dX9_told_74 ?_
            refine AWT_bipush (pc := 77) (v := 23) dX9_told_77 (by decide) ?_
            refine AWT_iload_n (pc := 79) dX9_told_79 rfl 3 rfl ?_
            refine AWT_imul (pc := 80) dX9_told_80 ?_
            refine AWT_iconst (pc := 81) (v := 5) dX9_told_81 (by decide) ?_
            refine AWT_iadd (pc := 82) dX9_told_82 ?_
            refine AWT_bipush (pc := 83) (v := 6) dX9_told_83 (by decide) ?_
            refine AWT_iload_n (pc := 85) dX9_told_85 rfl 1 rfl ?_
            refine AWT_imul (pc := 86) dX9_told_86 ?_
            refine AWT_iadd (pc := 87) dX9_told_87 ?_
            refine AWT_iload (pc := 88) dX9_told_88 0 rfl ?_
            refine AWT_iadd (pc := 90) dX9_told_90 ?_
            refine AWT_iald (pc := 91) (k := 22) (n := 138) rfl dX9_told_91 hv.1 ?_
            have hv := hv.2
            exact AWT_iret (pc := 92) rfl rfl dX9_told_92 hv
          · have hv := hv.2 c5
            refine AWT_bipush (pc := 70) (v := (-3)) dX9_told_70 (by decide) ?_
            exact AWT_iret (pc := 72) rfl rfl dX9_told_72 hv
        · have hv := hv.2 c4
          refine AWT_iconst (pc := 62) (v := 3) dX9_told_62 (by decide) ?_
          refine AWT_goto (pc := 63) (tgt := 67) dX9_told_63 (by decide) ?_
          refine AWT_icmp_le (pc := 67) (tgt := 73) dX9_told_67 (by decide) (fun c6 => ?_) (fun c6 => ?_)
          · have hv := hv.1 c6
            refine AWT_aload_n (pc := 73) dX9_told_73 rfl 2 rfl ?_
            refine AWT_getA (pc := 74) 22 (by decide) rfl rfl (FL.o q1065) dX9_told_74 ?_
            refine AWT_bipush (pc := 77) (v := 23) dX9_told_77 (by decide) ?_
            refine AWT_iload_n (pc := 79) dX9_told_79 rfl 3 rfl ?_
            refine AWT_imul (pc := 80) dX9_told_80 ?_
            refine AWT_iconst (pc := 81) (v := 5) dX9_told_81 (by decide) ?_
            refine AWT_iadd (pc := 82) dX9_told_82 ?_
            refine AWT_bipush (pc := 83) (v := 6) dX9_told_83 (by decide) ?_
            refine AWT_iload_n (pc := 85) dX9_told_85 rfl 1 rfl ?_
            refine AWT_imul (pc := 86) dX9_told_86 ?_
            refine AWT_iadd (pc := 87) dX9_told_87 ?_
            refine AWT_iload (pc := 88) dX9_told_88 0 rfl ?_
            refine AWT_iadd (pc := 90) dX9_told_90 ?_
            refine AWT_iald (pc := 91) (k := 22) (n := 138) rfl dX9_told_91 hv.1 ?_
            have hv := hv.2
            exact AWT_iret (pc := 92) rfl rfl dX9_told_92 hv
          · have hv := hv.2 c6
            refine AWT_bipush (pc := 70) (v := (-3)) dX9_told_70 (by decide) ?_
            exact AWT_iret (pc := 72) rfl rfl dX9_told_72 hv
    · have hv := hv.2 c2
      refine AWT_aload_n (pc := 20) dX9_told_20 rfl 0 rfl ?_
      refine AWT_getA (pc := 21) 22 (by decide) rfl rfl (FL.o q1065) dX9_told_21 ?_
      refine AWT_bipush (pc := 24) (v := 23) dX9_told_24 (by decide) ?_
      refine AWT_iload_n (pc := 26) dX9_told_26 rfl 1 rfl ?_
      refine AWT_imul (pc := 27) dX9_told_27 ?_
      refine AWT_iload_n (pc := 28) dX9_told_28 rfl 2 rfl ?_
      refine AWT_iadd (pc := 29) dX9_told_29 ?_
      refine AWT_iald (pc := 30) (k := 22) (n := 138) rfl dX9_told_30 hv.1 ?_
      have hv := hv.2
      exact AWT_iret (pc := 31) rfl rfl dX9_told_31 hv
  · have hv := hv.2 c1
    refine AWT_bipush (pc := 8) (v := (-2)) dX9_told_8 (by decide) ?_
    exact AWT_iret (pc := 10) rfl rfl dX9_told_10 hv
theorem mcX9_told {G : Gl} {o : Nat} {ad : Nat → Nat} (f : Tf) (g : Tg) (e : Te) (p : Int32) (w : Int32) (h1 : MI f g) : MCT G o ad MX9_told [.ref o, .int p, .int w] f g e (fun v0 f1 g1 e1 => v0 = some (.int (rTold f g p w)) ∧ f = f1 ∧ g = g1 ∧ e = e1) := by
  refine MCT.of ⟨rfl, rfl⟩ (by decide) (Nat.le_of_ble_eq_true rfl) rfl (fun h0 => vcX9_told_0 f g e p w ?_)
  refine ⟨fun c => ⟨fun c2 => ⟨fun c3 => by simp [rTold, c, c2, c3], fun c3 => ?_⟩, fun c2 => ?_⟩, fun c => by simp [rTold, c]⟩
  · have hin : vp_in ((((23 * p) + 5) + (6 * ((w / 10) - 1))) + (w - w / 10 * 10)) 138 := by
      obtain ⟨a, n, rfl, ha, -⟩ := h1.plan c
      obtain ⟨b, rfl, hb1, hb2⟩ := inB_n (a := 10) (b := 35) rfl rfl (by decide) (by decide) c3
      have e1 : nI b / 10 = nI (b / 10) := pk_div (d := 10) (by omega) (by decide) (by decide)
      have e2 : nI b - nI b / 10 * 10 = nI (b % 10) := pk_rem (d := 10) (by omega) (by decide) (by decide)
      rw [e2, e1, show nI (b / 10) - 1 = nI (b / 10 - 1) from pk_sub (b := 1) (by omega), lm 23 a, ra _ 5, lm 6, nI_add, nI_add]
      exact vp_in_nI (by omega) (by decide)
    exact ⟨fun c4 => ⟨fun c5 => ⟨hin, by simp [rTold, c, c2, c3, c4, c5]⟩, fun c5 => by simp [rTold, c, c2, c3, c4, c5]⟩, fun c4 => ⟨fun c5 => ⟨hin, by simp [rTold, c, c2, c3, c4, c5]⟩, fun c5 => by simp [rTold, c, c2, c3, c4, c5]⟩⟩
  · refine ⟨?_, by simp [rTold, c, c2]⟩
    obtain ⟨a, n, rfl, ha, -⟩ := h1.plan c
    obtain ⟨b, rfl, -, hb⟩ := inB_n (a := 0) (b := 4) rfl rfl (by decide) (by decide) c2
    rw [lm 23 a, nI_add]
    exact vp_in_nI (by omega) (by decide)
