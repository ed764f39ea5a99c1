/-! ===== the component: small methods (printed by h17.py) ===== -/
theorem vp_lt {i : Int32} {n : Nat} (h : vp_in i n) : i.toNatClampNeg < n := Nat.not_le.mp fun q => h (Or.inr q)
theorem vp_lt10 {i : Int32} {n : Nat} (h : vp_in i n) (hn : n ≤ 10) : i.toNatClampNeg < 10 := Nat.lt_of_lt_of_le (vp_lt h) hn
theorem kB_later {c : Cn} {p j : Nat} (h : p < cP c) (hj : j < cS c p) (h3 : j < 3) (h0 : ¬ j = 0) : kB c (63 + 8 * p + j) = some (.inl 14) := by
  have := kB_look h hj h3
  rw [if_neg h0] at this
  exact this
theorem i64_le (x y : Int32) : x.toInt64 ≤ y.toInt64 ↔ x ≤ y := by
  rw [Int64.le_iff_toInt_le, Int32.le_iff_toInt_le, Int32.toInt_toInt64, Int32.toInt_toInt64]
theorem i64_lt (x y : Int32) : x.toInt64 < y.toInt64 ↔ x < y := by
  rw [Int64.lt_iff_toInt_lt, Int32.lt_iff_toInt_lt, Int32.toInt_toInt64, Int32.toInt_toInt64]
abbrev MX0_isIn : Mi := (yX0_isIn, cX0_isIn, 6, some .boolean, { frames := 0, cells := 0, slots := 0, locals := 0 })
theorem nmX0_isIn : Nm yX0_isIn 3 := ⟨by decide +kernel, by decide +kernel, by decide +kernel⟩
theorem vcX0_isIn_0 {G : Gl} {ad : Nat → Nat} {cn : Cn} {h0 : Hp} {Q : Option Value → Tg → Prop} (g : Tg) (v : Int64) (a : Int64) (b : Int64)  (hv : (((lg_cmp v a) < 0 → Q (some (.int 0)) g) ∧ (¬ (lg_cmp v a) < 0 → ((0 < (lg_cmp v b) → Q (some (.int 0)) g) ∧ (¬ 0 < (lg_cmp v b) → Q (some (.int 1)) g))))) :
    AWC G ad cn h0 MX0_isIn Q g 0 [(0, .long v), (2, .long a), (4, .long b)] [] := by
  refine AWC_lload_n (pc := 0) dX0_isIn_0 rfl 0 rfl ?_
  refine AWC_lload_n (pc := 1) dX0_isIn_1 rfl 1 rfl ?_
  refine AWC_lcmp (pc := 2) dX0_isIn_2 ?_
  refine AWC_if_lt (pc := 3) (tgt := 17) dX0_isIn_3 (by decide) (fun c1 => ?_) (fun c1 => ?_)
  · have hv := hv.1 c1
    refine AWC_iconst (pc := 17) (v := 0) dX0_isIn_17 (by decide) ?_
    exact AWC_iret (pc := 18) rfl (by decide) dX0_isIn_18 hv
  · have hv := hv.2 c1
    refine AWC_lload_n (pc := 6) dX0_isIn_6 rfl 0 rfl ?_
    refine AWC_lload (pc := 7) dX0_isIn_7 2 rfl ?_
    refine AWC_lcmp (pc := 9) dX0_isIn_9 ?_
    refine AWC_if_gt (pc := 10) (tgt := 17) dX0_isIn_10 (by decide) (fun c2 => ?_) (fun c2 => ?_)
    · have hv := hv.1 c2
      refine AWC_iconst (pc := 17) (v := 0) dX0_isIn_17 (by decide) ?_
      exact AWC_iret (pc := 18) rfl (by decide) dX0_isIn_18 hv
    · have hv := hv.2 c2
      refine AWC_iconst (pc := 13) (v := 1) dX0_isIn_13 (by decide) ?_
      refine AWC_goto (pc := 14) (tgt := 18) dX0_isIn_14 (by decide) ?_
      exact AWC_iret (pc := 18) rfl (by decide) dX0_isIn_18 hv
theorem mcX0_isIn {G : Gl} {ad : Nat → Nat} (cn : Cn) (g : Tg) (v : Int64) (a : Int64) (b : Int64)  : MCC G ad cn MX0_isIn [.long v, .long a, .long b] g (fun v0 g1 => v0 = some (.int (bI (decide (a ≤ v) && decide (v ≤ b)))) ∧ g = g1) := by
  refine MCC.of ⟨rfl, rfl⟩ (by decide) (Nat.le_of_ble_eq_true rfl) rfl (fun h0 => vcX0_isIn_0 g v a b  ?_)
  refine ⟨fun c => ?_, fun c => ⟨fun c2 => ?_, fun c2 => ?_⟩⟩
  · rw [lg_cmp_lt] at c
    rw [decide_eq_false (Int64.not_le.mpr c)]
    exact ⟨rfl, rfl⟩
  · rw [lg_cmp_gt] at c2
    rw [decide_eq_false (Int64.not_le.mpr c2), Bool.and_false]
    exact ⟨rfl, rfl⟩
  · rw [lg_cmp_lt] at c
    rw [lg_cmp_gt] at c2
    rw [decide_eq_true (Int64.not_lt.mp c), decide_eq_true (Int64.not_lt.mp c2)]
    exact ⟨rfl, rfl⟩
theorem mcX0_isInI {G : Gl} {ad : Nat → Nat} (cn : Cn) (g : Tg) (x a b : Int32) (X A B : Int64) (h1 : X = x.toInt64) (h2 : A = a.toInt64) (h3 : B = b.toInt64) : MCC G ad cn MX0_isIn [.long X, .long A, .long B] g (fun v0 g1 => v0 = some (.int (bI (inB x a b))) ∧ g = g1) := by
  subst h1 h2 h3
  have := mcX0_isIn (G := G) (ad := ad) cn g x.toInt64 a.toInt64 b.toInt64
  simp only [i64_le] at this
  exact this
abbrev MX0_isTarget : Mi := (yX0_isTarget, cX0_isTarget, 2, some .boolean, { frames := 1, cells := 0, slots := 0, locals := 25 })
theorem nmX0_isTarget : Nm yX0_isTarget 1 := ⟨by decide +kernel, by decide +kernel, by decide +kernel⟩
theorem vcX0_isTarget_0 {G : Gl} {ad : Nat → Nat} {cn : Cn} {h0 : Hp} {Q : Option Value → Tg → Prop} (g : Tg) (t : Int32)  (hv : Q (some (.int (bI (inB t 0 ((g 0 8) - 1))))) g) :
    AWC G ad cn h0 MX0_isTarget Q g 0 [(0, .ref (ad 0)), (1, .int t)] [] := by
  refine AWC_iload_n (pc := 0) dX0_isTarget_0 rfl 1 rfl ?_
  refine AWC_i2l (pc := 1) dX0_isTarget_1 ?_
  refine AWC_lconst (pc := 2) (v := 0) dX0_isTarget_2 (by decide) ?_
  refine AWC_aload_n (pc := 3) dX0_isTarget_3 rfl 0 rfl ?_
  refine AWC_getI (pc := 4) (0) 8 rfl clX0 (by decide) rfl (FL.o q268) dX0_isTarget_4 ?_
  refine AWC_iconst (pc := 7) (v := 1) dX0_isTarget_7 (by decide) ?_
  refine AWC_isub (pc := 8) dX0_isTarget_8 ?_
  refine AWC_i2l (pc := 9) dX0_isTarget_9 ?_
  refine AWC_callS (M' := MX0_isIn) (pc := 10) [.long (Int32.toInt64 t), .long 0, .long (Int32.toInt64 ((g 0 8) - 1))] [] nmX0_isIn ⟨rfl, rfl⟩ (ML.o q354) q355 q73 q356 dX0_isTarget_10 rfl rfl (Nat.le_of_ble_eq_true rfl) ⟨Nat.le_of_ble_eq_true rfl, Nat.le_of_ble_eq_true rfl⟩ (mcX0_isInI cn g t 0 ((g 0 8) - 1) (Int32.toInt64 t) 0 (Int32.toInt64 ((g 0 8) - 1)) rfl rfl rfl) ?_
  rintro _ _ ⟨rfl, rfl⟩
  exact AWC_iret (pc := 13) rfl (bI_nar _) dX0_isTarget_13 hv
theorem mcX0_isTarget {G : Gl} {ad : Nat → Nat} (cn : Cn) (g : Tg) (t : Int32)  : MCC G ad cn MX0_isTarget [.ref (ad 0), .int t] g (fun v0 g1 => v0 = some (.int (bI (inB t 0 (g 0 8 - 1)))) ∧ g = g1) := by
  refine MCC.of ⟨rfl, rfl⟩ (by decide) (Nat.le_of_ble_eq_true rfl) rfl (fun h0 => vcX0_isTarget_0 g t  ?_)
  exact ⟨rfl, rfl⟩
abbrev MX0_isSlot : Mi := (yX0_isSlot, cX0_isSlot, 2, some .boolean, { frames := 1, cells := 0, slots := 0, locals := 25 })
theorem nmX0_isSlot : Nm yX0_isSlot 1 := ⟨by decide +kernel, by decide +kernel, by decide +kernel⟩
theorem vcX0_isSlot_0 {G : Gl} {ad : Nat → Nat} {cn : Cn} {h0 : Hp} {Q : Option Value → Tg → Prop} (g : Tg) (s : Int32)  (hv : Q (some (.int (bI (inB s 0 ((g 0 0) - 1))))) g) :
    AWC G ad cn h0 MX0_isSlot Q g 0 [(0, .ref (ad 0)), (1, .int s)] [] := by
  refine AWC_iload_n (pc := 0) dX0_isSlot_0 rfl 1 rfl ?_
  refine AWC_i2l (pc := 1) dX0_isSlot_1 ?_
  refine AWC_lconst (pc := 2) (v := 0) dX0_isSlot_2 (by decide) ?_
  refine AWC_aload_n (pc := 3) dX0_isSlot_3 rfl 0 rfl ?_
  refine AWC_getI (pc := 4) (0) 0 rfl clX0 (by decide) rfl (FL.o q251) dX0_isSlot_4 ?_
  refine AWC_iconst (pc := 7) (v := 1) dX0_isSlot_7 (by decide) ?_
  refine AWC_isub (pc := 8) dX0_isSlot_8 ?_
  refine AWC_i2l (pc := 9) dX0_isSlot_9 ?_
  refine AWC_callS (M' := MX0_isIn) (pc := 10) [.long (Int32.toInt64 s), .long 0, .long (Int32.toInt64 ((g 0 0) - 1))] [] nmX0_isIn ⟨rfl, rfl⟩ (ML.o q354) q355 q73 q356 dX0_isSlot_10 rfl rfl (Nat.le_of_ble_eq_true rfl) ⟨Nat.le_of_ble_eq_true rfl, Nat.le_of_ble_eq_true rfl⟩ (mcX0_isInI cn g s 0 ((g 0 0) - 1) (Int32.toInt64 s) 0 (Int32.toInt64 ((g 0 0) - 1)) rfl rfl rfl) ?_
  rintro _ _ ⟨rfl, rfl⟩
  exact AWC_iret (pc := 13) rfl (bI_nar _) dX0_isSlot_13 hv
theorem mcX0_isSlot {G : Gl} {ad : Nat → Nat} (cn : Cn) (g : Tg) (s : Int32)  : MCC G ad cn MX0_isSlot [.ref (ad 0), .int s] g (fun v0 g1 => v0 = some (.int (bI (inB s 0 (g 0 0 - 1)))) ∧ g = g1) := by
  refine MCC.of ⟨rfl, rfl⟩ (by decide) (Nat.le_of_ble_eq_true rfl) rfl (fun h0 => vcX0_isSlot_0 g s  ?_)
  exact ⟨rfl, rfl⟩
abbrev MX0_isSky : Mi := (yX0_isSky, cX0_isSky, 2, some .boolean, { frames := 1, cells := 0, slots := 0, locals := 25 })
theorem nmX0_isSky : Nm yX0_isSky 1 := ⟨by decide +kernel, by decide +kernel, by decide +kernel⟩
theorem vcX0_isSky_0 {G : Gl} {ad : Nat → Nat} {cn : Cn} {h0 : Hp} {Q : Option Value → Tg → Prop} (g : Tg) (k : Int32)  (hv : Q (some (.int (bI (inB k 0 (1 + (g 0 6)))))) g) :
    AWC G ad cn h0 MX0_isSky Q g 0 [(0, .ref (ad 0)), (1, .int k)] [] := by
  refine AWC_iload_n (pc := 0) dX0_isSky_0 rfl 1 rfl ?_
  refine AWC_i2l (pc := 1) dX0_isSky_1 ?_
  refine AWC_lconst (pc := 2) (v := 0) dX0_isSky_2 (by decide) ?_
  refine AWC_iconst (pc := 3) (v := 1) dX0_isSky_3 (by decide) ?_
  refine AWC_aload_n (pc := 4) dX0_isSky_4 rfl 0 rfl ?_
  refine AWC_getI (pc := 5) (0) 6 rfl clX0 (by decide) rfl (FL.o q265) dX0_isSky_5 ?_
  refine AWC_iadd (pc := 8) dX0_isSky_8 ?_
  refine AWC_i2l (pc := 9) dX0_isSky_9 ?_
  refine AWC_callS (M' := MX0_isIn) (pc := 10) [.long (Int32.toInt64 k), .long 0, .long (Int32.toInt64 (1 + (g 0 6)))] [] nmX0_isIn ⟨rfl, rfl⟩ (ML.o q354) q355 q73 q356 dX0_isSky_10 rfl rfl (Nat.le_of_ble_eq_true rfl) ⟨Nat.le_of_ble_eq_true rfl, Nat.le_of_ble_eq_true rfl⟩ (mcX0_isInI cn g k 0 (1 + (g 0 6)) (Int32.toInt64 k) 0 (Int32.toInt64 (1 + (g 0 6))) rfl rfl rfl) ?_
  rintro _ _ ⟨rfl, rfl⟩
  exact AWC_iret (pc := 13) rfl (bI_nar _) dX0_isSky_13 hv
theorem mcX0_isSky {G : Gl} {ad : Nat → Nat} (cn : Cn) (g : Tg) (k : Int32)  : MCC G ad cn MX0_isSky [.ref (ad 0), .int k] g (fun v0 g1 => v0 = some (.int (bI (inB k 0 (1 + g 0 6)))) ∧ g = g1) := by
  refine MCC.of ⟨rfl, rfl⟩ (by decide) (Nat.le_of_ble_eq_true rfl) rfl (fun h0 => vcX0_isSky_0 g k  ?_)
  exact ⟨rfl, rfl⟩
abbrev MX0_isPlan : Mi := (yX0_isPlan, cX0_isPlan, 2, some .boolean, { frames := 1, cells := 0, slots := 0, locals := 25 })
theorem nmX0_isPlan : Nm yX0_isPlan 1 := ⟨by decide +kernel, by decide +kernel, by decide +kernel⟩
theorem vcX0_isPlan_0 {G : Gl} {ad : Nat → Nat} {cn : Cn} {h0 : Hp} {Q : Option Value → Tg → Prop} (g : Tg) (p : Int32)  (hv : Q (some (.int (bI (inB p 0 ((g 0 10) - 1))))) g) :
    AWC G ad cn h0 MX0_isPlan Q g 0 [(0, .ref (ad 0)), (1, .int p)] [] := by
  refine AWC_iload_n (pc := 0) dX0_isPlan_0 rfl 1 rfl ?_
  refine AWC_i2l (pc := 1) dX0_isPlan_1 ?_
  refine AWC_lconst (pc := 2) (v := 0) dX0_isPlan_2 (by decide) ?_
  refine AWC_aload_n (pc := 3) dX0_isPlan_3 rfl 0 rfl ?_
  refine AWC_getI (pc := 4) (0) 10 rfl clX0 (by decide) rfl (FL.o q275) dX0_isPlan_4 ?_
  refine AWC_iconst (pc := 7) (v := 1) dX0_isPlan_7 (by decide) ?_
  refine AWC_isub (pc := 8) dX0_isPlan_8 ?_
  refine AWC_i2l (pc := 9) dX0_isPlan_9 ?_
  refine AWC_callS (M' := MX0_isIn) (pc := 10) [.long (Int32.toInt64 p), .long 0, .long (Int32.toInt64 ((g 0 10) - 1))] [] nmX0_isIn ⟨rfl, rfl⟩ (ML.o q354) q355 q73 q356 dX0_isPlan_10 rfl rfl (Nat.le_of_ble_eq_true rfl) ⟨Nat.le_of_ble_eq_true rfl, Nat.le_of_ble_eq_true rfl⟩ (mcX0_isInI cn g p 0 ((g 0 10) - 1) (Int32.toInt64 p) 0 (Int32.toInt64 ((g 0 10) - 1)) rfl rfl rfl) ?_
  rintro _ _ ⟨rfl, rfl⟩
  exact AWC_iret (pc := 13) rfl (bI_nar _) dX0_isPlan_13 hv
theorem mcX0_isPlan {G : Gl} {ad : Nat → Nat} (cn : Cn) (g : Tg) (p : Int32)  : MCC G ad cn MX0_isPlan [.ref (ad 0), .int p] g (fun v0 g1 => v0 = some (.int (bI (inB p 0 (g 0 10 - 1)))) ∧ g = g1) := by
  refine MCC.of ⟨rfl, rfl⟩ (by decide) (Nat.le_of_ble_eq_true rfl) rfl (fun h0 => vcX0_isPlan_0 g p  ?_)
  exact ⟨rfl, rfl⟩
abbrev MX0_isRule : Mi := (yX0_isRule, cX0_isRule, 2, some .boolean, { frames := 1, cells := 0, slots := 0, locals := 25 })
theorem nmX0_isRule : Nm yX0_isRule 1 := ⟨by decide +kernel, by decide +kernel, by decide +kernel⟩
theorem vcX0_isRule_0 {G : Gl} {ad : Nat → Nat} {cn : Cn} {h0 : Hp} {Q : Option Value → Tg → Prop} (g : Tg) (r : Int32)  (hv : Q (some (.int (bI (inB r 0 (3 - 1))))) g) :
    AWC G ad cn h0 MX0_isRule Q g 0 [(0, .ref (ad 0)), (1, .int r)] [] := by
  refine AWC_iload_n (pc := 0) dX0_isRule_0 rfl 1 rfl ?_
  refine AWC_i2l (pc := 1) dX0_isRule_1 ?_
  refine AWC_lconst (pc := 2) (v := 0) dX0_isRule_2 (by decide) ?_
  refine AWC_aload_n (pc := 3) dX0_isRule_3 rfl 0 rfl ?_
  refine AWC_getR (pc := 4) (0) 18 (10) rfl rfl clX0 (by decide) rfl (FL.o q287) dX0_isRule_4 ?_
  refine AWC_alen (pc := 7) (b := 10) (t := 6) (n := 3) (v := 3) rfl (by decide) (by decide) dX0_isRule_7 ?_
  refine AWC_iconst (pc := 8) (v := 1) dX0_isRule_8 (by decide) ?_
  refine AWC_isub (pc := 9) dX0_isRule_9 ?_
  refine AWC_i2l (pc := 10) dX0_isRule_10 ?_
  refine AWC_callS (M' := MX0_isIn) (pc := 11) [.long (Int32.toInt64 r), .long 0, .long (Int32.toInt64 (3 - 1))] [] nmX0_isIn ⟨rfl, rfl⟩ (ML.o q354) q355 q73 q356 dX0_isRule_11 rfl rfl (Nat.le_of_ble_eq_true rfl) ⟨Nat.le_of_ble_eq_true rfl, Nat.le_of_ble_eq_true rfl⟩ (mcX0_isInI cn g r 0 (3 - 1) (Int32.toInt64 r) 0 (Int32.toInt64 (3 - 1)) rfl rfl rfl) ?_
  rintro _ _ ⟨rfl, rfl⟩
  exact AWC_iret (pc := 14) rfl (bI_nar _) dX0_isRule_14 hv
theorem mcX0_isRule {G : Gl} {ad : Nat → Nat} (cn : Cn) (g : Tg) (r : Int32)  : MCC G ad cn MX0_isRule [.ref (ad 0), .int r] g (fun v0 g1 => v0 = some (.int (bI (inB r 0 2))) ∧ g = g1) := by
  refine MCC.of ⟨rfl, rfl⟩ (by decide) (Nat.le_of_ble_eq_true rfl) rfl (fun h0 => vcX0_isRule_0 g r  ?_)
  exact ⟨rfl, rfl⟩
abbrev MX0_isLand : Mi := (yX0_isLand, cX0_isLand, 1, some .boolean, { frames := 1, cells := 0, slots := 0, locals := 25 })
theorem nmX0_isLand : Nm yX0_isLand 1 := ⟨by decide +kernel, by decide +kernel, by decide +kernel⟩
theorem vcX0_isLand_0 {G : Gl} {ad : Nat → Nat} {cn : Cn} {h0 : Hp} {Q : Option Value → Tg → Prop} (g : Tg) (l : Int32)  (hv : Q (some (.int (bI (inB l 0 3)))) g) :
    AWC G ad cn h0 MX0_isLand Q g 0 [(0, .int l)] [] := by
  refine AWC_iload_n (pc := 0) dX0_isLand_0 rfl 0 rfl ?_
  refine AWC_i2l (pc := 1) dX0_isLand_1 ?_
  refine AWC_lconst (pc := 2) (v := 0) dX0_isLand_2 (by decide) ?_
  refine AWC_ldc2 (pc := 3) q364 dX0_isLand_3 ?_
  refine AWC_callS (M' := MX0_isIn) (pc := 6) [.long (Int32.toInt64 l), .long 0, .long 3] [] nmX0_isIn ⟨rfl, rfl⟩ (ML.o q354) q355 q73 q356 dX0_isLand_6 rfl rfl (Nat.le_of_ble_eq_true rfl) ⟨Nat.le_of_ble_eq_true rfl, Nat.le_of_ble_eq_true rfl⟩ (mcX0_isInI cn g l 0 3 (Int32.toInt64 l) 0 3 rfl rfl rfl) ?_
  rintro _ _ ⟨rfl, rfl⟩
  exact AWC_iret (pc := 9) rfl (bI_nar _) dX0_isLand_9 hv
theorem mcX0_isLand {G : Gl} {ad : Nat → Nat} (cn : Cn) (g : Tg) (l : Int32)  : MCC G ad cn MX0_isLand [.int l] g (fun v0 g1 => v0 = some (.int (bI (inB l 0 3))) ∧ g = g1) := by
  refine MCC.of ⟨rfl, rfl⟩ (by decide) (Nat.le_of_ble_eq_true rfl) rfl (fun h0 => vcX0_isLand_0 g l  ?_)
  exact ⟨rfl, rfl⟩
def bitsI (a n : Int32) : Int32 := (((1 : Int32) <<< (n &&& 31)) - 1) <<< (a &&& 31)
def wideI (x : Int32) : Int32 := (x ||| (x <<< ((1 : Int32) &&& 31))) ||| (x >>> ((1 : Int32) &&& 31))
abbrev MX0_bitsOf : Mi := (yX0_bitsOf, cX0_bitsOf, 2, some .int, { frames := 0, cells := 0, slots := 0, locals := 0 })
theorem nmX0_bitsOf : Nm yX0_bitsOf 2 := ⟨by decide +kernel, by decide +kernel, by decide +kernel⟩
theorem vcX0_bitsOf_0 {G : Gl} {ad : Nat → Nat} {cn : Cn} {h0 : Hp} {Q : Option Value → Tg → Prop} (g : Tg) (a : Int32) (n : Int32)  (hv : Q (some (.int (((1 <<< (n &&& 31)) - 1) <<< (a &&& 31)))) g) :
    AWC G ad cn h0 MX0_bitsOf Q g 0 [(0, .int a), (1, .int n)] [] := by
  refine AWC_iconst (pc := 0) (v := 1) dX0_bitsOf_0 (by decide) ?_
  refine AWC_iload_n (pc := 1) dX0_bitsOf_1 rfl 1 rfl ?_
  refine AWC_ishl (pc := 2) dX0_bitsOf_2 ?_
  refine AWC_iconst (pc := 3) (v := 1) dX0_bitsOf_3 (by decide) ?_
  refine AWC_isub (pc := 4) dX0_bitsOf_4 ?_
  refine AWC_iload_n (pc := 5) dX0_bitsOf_5 rfl 0 rfl ?_
  refine AWC_ishl (pc := 6) dX0_bitsOf_6 ?_
  exact AWC_iret (pc := 7) rfl rfl dX0_bitsOf_7 hv
theorem mcX0_bitsOf {G : Gl} {ad : Nat → Nat} (cn : Cn) (g : Tg) (a : Int32) (n : Int32)  : MCC G ad cn MX0_bitsOf [.int a, .int n] g (fun v0 g1 => v0 = some (.int (bitsI a n)) ∧ g = g1) := by
  refine MCC.of ⟨rfl, rfl⟩ (by decide) (Nat.le_of_ble_eq_true rfl) rfl (fun h0 => vcX0_bitsOf_0 g a n  ?_)
  exact ⟨rfl, rfl⟩
abbrev MX0_wide : Mi := (yX0_wide, cX0_wide, 1, some .int, { frames := 0, cells := 0, slots := 0, locals := 0 })
theorem nmX0_wide : Nm yX0_wide 1 := ⟨by decide +kernel, by decide +kernel, by decide +kernel⟩
theorem vcX0_wide_0 {G : Gl} {ad : Nat → Nat} {cn : Cn} {h0 : Hp} {Q : Option Value → Tg → Prop} (g : Tg) (x : Int32)  (hv : Q (some (.int ((x ||| (x <<< (1 &&& 31))) ||| (x >>> (1 &&& 31))))) g) :
    AWC G ad cn h0 MX0_wide Q g 0 [(0, .int x)] [] := by
  refine AWC_iload_n (pc := 0) dX0_wide_0 rfl 0 rfl ?_
  refine AWC_iload_n (pc := 1) dX0_wide_1 rfl 0 rfl ?_
  refine AWC_iconst (pc := 2) (v := 1) dX0_wide_2 (by decide) ?_
  refine AWC_ishl (pc := 3) dX0_wide_3 ?_
  refine AWC_ior (pc := 4) dX0_wide_4 ?_
  refine AWC_iload_n (pc := 5) dX0_wide_5 rfl 0 rfl ?_
  refine AWC_iconst (pc := 6) (v := 1) dX0_wide_6 (by decide) ?_
  refine AWC_ishr (pc := 7) dX0_wide_7 ?_
  refine AWC_ior (pc := 8) dX0_wide_8 ?_
  exact AWC_iret (pc := 9) rfl rfl dX0_wide_9 hv
theorem mcX0_wide {G : Gl} {ad : Nat → Nat} (cn : Cn) (g : Tg) (x : Int32)  : MCC G ad cn MX0_wide [.int x] g (fun v0 g1 => v0 = some (.int (wideI x)) ∧ g = g1) := by
  refine MCC.of ⟨rfl, rfl⟩ (by decide) (Nat.le_of_ble_eq_true rfl) rfl (fun h0 => vcX0_wide_0 g x  ?_)
  exact ⟨rfl, rfl⟩
def airC (g : Tg) (T : Nat) (s : Int32) : Int32 := airS (g (50 + T) 0) (g 0 1) s
def visC (g : Tg) (T : Nat) (s : Int32) : Bool := decide (airC g T s ≤ g (50 + T) 1)
def brC (g : Tg) (T : Nat) (s : Int32) : Bool := decide (g (50 + T) 2 = g 0 2) && inB s (g 0 3) (g 0 4)
def fitC (g : Tg) (L K T : Nat) (s : Int32) : Bool := fitV (g (40 + K) s.toNatClampNeg) (g L 1) (visC g T s) (airC g T s) (g L 2) (g L 3) (brC g T s)
abbrev MX10_air : Mi := (yX10_air, cX10_air, 2, some .int, { frames := 1, cells := 0, slots := 0, locals := 21 })
theorem nmX10_air : Nm yX10_air 1 := ⟨by decide +kernel, by decide +kernel, by decide +kernel⟩
theorem vcX10_air_0 {G : Gl} {ad : Nat → Nat} {cn : Cn} {h0 : Hp} {Q : Option Value → Tg → Prop} (g : Tg) (T : Nat) (s : Int32) (hT1 : T < cT cn) (hT2 : T < 10) (hv : Q (some (.int (if 0 ≤ (s - ((g (50 + T) 0) - (g 0 1))) then (s - ((g (50 + T) 0) - (g 0 1))) else 0 - (s - ((g (50 + T) 0) - (g 0 1)))))) g) :
    AWC G ad cn h0 MX10_air Q g 0 [(0, .ref (ad (50 + T))), (1, .int s)] [] := by
  refine AWC_iload_n (pc := 0) dX10_air_0 rfl 1 rfl ?_
  refine AWC_aload_n (pc := 1) dX10_air_1 rfl 0 rfl ?_
  refine AWC_getI (pc := 2) (50 + T) 0 (kB_tgt hT1 hT2) clX10 (by decide) rfl (FL.o q370) dX10_air_2 ?_
  refine AWC_aload_n (pc := 5) dX10_air_5 rfl 0 rfl ?_
  refine AWC_getR (pc := 6) (50 + T) 3 (0) (kB_tgt hT1 hT2) (rB_tgo hT2) clX10 (by decide) rfl (FL.o q373) dX10_air_6 ?_
  refine AWC_getI (pc := 9) (0) 1 rfl clX0 (by decide) rfl (FL.n q255) dX10_air_9 ?_
  refine AWC_isub (pc := 12) dX10_air_12 ?_
  refine AWC_isub (pc := 13) dX10_air_13 ?_
  refine AWC_mabs (pc := 14) q403 q404 q84 q405 (Nat.le_of_ble_eq_true rfl) (Nat.le_of_ble_eq_true rfl) dX10_air_14 ?_
  exact AWC_iret (pc := 17) rfl rfl dX10_air_17 hv
theorem mcX10_air {G : Gl} {ad : Nat → Nat} (cn : Cn) (g : Tg) (T : Nat) (s : Int32) (hT1 : T < cT cn) (hT2 : T < 10) : MCC G ad cn MX10_air [.ref (ad (50 + T)), .int s] g (fun v0 g1 => v0 = some (.int (airC g T s)) ∧ g = g1) := by
  refine MCC.of ⟨rfl, rfl⟩ (by decide) (Nat.le_of_ble_eq_true rfl) rfl (fun h0 => vcX10_air_0 g T s hT1 hT2 ?_)
  refine ⟨?_, rfl⟩
  have e1 : s - (g (50 + T) 0 - g 0 1) = s - g (50 + T) 0 + g 0 1 := by grind
  rw [e1, airC, airS]
  by_cases c : s - g (50 + T) 0 + g 0 1 < 0
  · rw [if_pos c, if_neg (Int32.not_le.mpr c)]
    have e2 : ∀ x : Int32, 0 - x = -x := fun x => by grind
    rw [e2]
  · rw [if_neg c, if_pos (Int32.not_lt.mp c)]
abbrev MX10_isVisible : Mi := (yX10_isVisible, cX10_isVisible, 2, some .boolean, { frames := 2, cells := 0, slots := 0, locals := 42 })
theorem nmX10_isVisible : Nm yX10_isVisible 1 := ⟨by decide +kernel, by decide +kernel, by decide +kernel⟩
theorem vcX10_isVisible_0 {G : Gl} {ad : Nat → Nat} {cn : Cn} {h0 : Hp} {Q : Option Value → Tg → Prop} (g : Tg) (T : Nat) (s : Int32) (hT1 : T < cT cn) (hT2 : T < 10) (hv : (((g (50 + T) 1) < (airC g T s) → Q (some (.int 0)) g) ∧ (¬ (g (50 + T) 1) < (airC g T s) → Q (some (.int 1)) g))) :
    AWC G ad cn h0 MX10_isVisible Q g 0 [(0, .ref (ad (50 + T))), (1, .int s)] [] := by
  refine AWC_aload_n (pc := 0) dX10_isVisible_0 rfl 0 rfl ?_
  refine AWC_iload_n (pc := 1) dX10_isVisible_1 rfl 1 rfl ?_
  refine AWC_callV (M' := MX10_air) (pc := 2) (a := 50 + T) [.int s] [] clX10 (kB_tgt hT1 hT2) rfl nmX10_air ⟨rfl, rfl⟩ (ML.o q399) q400 q401 q83 q402 dX10_isVisible_2 rfl rfl (Nat.le_of_ble_eq_true rfl) ⟨Nat.le_of_ble_eq_true rfl, Nat.le_of_ble_eq_true rfl⟩ (mcX10_air cn g T s hT1 hT2) ?_
  rintro _ _ ⟨rfl, rfl⟩
  refine AWC_aload_n (pc := 5) dX10_isVisible_5 rfl 0 rfl ?_
  refine AWC_getI (pc := 6) (50 + T) 1 (kB_tgt hT1 hT2) clX10 (by decide) rfl (FL.o q371) dX10_isVisible_6 ?_
  refine AWC_icmp_gt (pc := 9) (tgt := 16) dX10_isVisible_9 (by decide) (fun c1 => ?_) (fun c1 => ?_)
  · have hv := hv.1 c1
    refine AWC_iconst (pc := 16) (v := 0) dX10_isVisible_16 (by decide) ?_
    exact AWC_iret (pc := 17) rfl (by decide) dX10_isVisible_17 hv
  · have hv := hv.2 c1
    refine AWC_iconst (pc := 12) (v := 1) dX10_isVisible_12 (by decide) ?_
    refine AWC_goto (pc := 13) (tgt := 17) dX10_isVisible_13 (by decide) ?_
    exact AWC_iret (pc := 17) rfl (by decide) dX10_isVisible_17 hv
theorem mcX10_isVisible {G : Gl} {ad : Nat → Nat} (cn : Cn) (g : Tg) (T : Nat) (s : Int32) (hT1 : T < cT cn) (hT2 : T < 10) : MCC G ad cn MX10_isVisible [.ref (ad (50 + T)), .int s] g (fun v0 g1 => v0 = some (.int (bI (visC g T s))) ∧ g = g1) := by
  refine MCC.of ⟨rfl, rfl⟩ (by decide) (Nat.le_of_ble_eq_true rfl) rfl (fun h0 => vcX10_isVisible_0 g T s hT1 hT2 ?_)
  refine ⟨fun c => ?_, fun c => ?_⟩
  · rw [visC, decide_eq_false (Int32.not_le.mpr c)]; exact ⟨rfl, rfl⟩
  · rw [visC, decide_eq_true (Int32.not_lt.mp c)]; exact ⟨rfl, rfl⟩
abbrev MX10_isBright : Mi := (yX10_isBright, cX10_isBright, 2, some .boolean, { frames := 1, cells := 0, slots := 0, locals := 25 })
theorem nmX10_isBright : Nm yX10_isBright 1 := ⟨by decide +kernel, by decide +kernel, by decide +kernel⟩
theorem vcX10_isBright_0 {G : Gl} {ad : Nat → Nat} {cn : Cn} {h0 : Hp} {Q : Option Value → Tg → Prop} (g : Tg) (T : Nat) (s : Int32) (hT1 : T < cT cn) (hT2 : T < 10) (hv : ((¬ (g (50 + T) 2) = (g 0 2) → Q (some (.int 0)) g) ∧ ((g (50 + T) 2) = (g 0 2) → (((inB s (g 0 3) (g 0 4)) = false → Q (some (.int 0)) g) ∧ ((inB s (g 0 3) (g 0 4)) = true → Q (some (.int 1)) g))))) :
    AWC G ad cn h0 MX10_isBright Q g 0 [(0, .ref (ad (50 + T))), (1, .int s)] [] := by
  refine AWC_aload_n (pc := 0) dX10_isBright_0 rfl 0 rfl ?_
  refine AWC_getI (pc := 1) (50 + T) 2 (kB_tgt hT1 hT2) clX10 (by decide) rfl (FL.o q372) dX10_isBright_1 ?_
  refine AWC_aload_n (pc := 4) dX10_isBright_4 rfl 0 rfl ?_
  refine AWC_getR (pc := 5) (50 + T) 3 (0) (kB_tgt hT1 hT2) (rB_tgo hT2) clX10 (by decide) rfl (FL.o q373) dX10_isBright_5 ?_
  refine AWC_getI (pc := 8) (0) 2 rfl clX0 (by decide) rfl (FL.n q258) dX10_isBright_8 ?_
  refine AWC_icmp_ne (pc := 11) (tgt := 42) dX10_isBright_11 (by decide) (fun c1 => ?_) (fun c1 => ?_)
  · have hv := hv.1 c1
    refine AWC_iconst (pc := 42) (v := 0) dX10_isBright_42 (by decide) ?_
    exact AWC_iret (pc := 43) rfl (by decide) dX10_isBright_43 hv
  · have hv := hv.2 c1
    refine AWC_iload_n (pc := 14) dX10_isBright_14 rfl 1 rfl ?_
    refine AWC_i2l (pc := 15) dX10_isBright_15 ?_
    refine AWC_aload_n (pc := 16) dX10_isBright_16 rfl 0 rfl ?_
    refine AWC_getR (pc := 17) (50 + T) 3 (0) (kB_tgt hT1 hT2) (rB_tgo hT2) clX10 (by decide) rfl (FL.o q373) dX10_isBright_17 ?_
    refine AWC_getI (pc := 20) (0) 3 rfl clX0 (by decide) rfl (FL.n q259) dX10_isBright_20 ?_
    refine AWC_i2l (pc := 23) dX10_isBright_23 ?_
    refine AWC_aload_n (pc := 24) dX10_isBright_24 rfl 0 rfl ?_
    refine AWC_getR (pc := 25) (50 + T) 3 (0) (kB_tgt hT1 hT2) (rB_tgo hT2) clX10 (by decide) rfl (FL.o q373) dX10_isBright_25 ?_
    refine AWC_getI (pc := 28) (0) 4 rfl clX0 (by decide) rfl (FL.n q261) dX10_isBright_28 ?_
    refine AWC_i2l (pc := 31) dX10_isBright_31 ?_
    refine AWC_callS (M' := MX0_isIn) (pc := 32) [.long (Int32.toInt64 s), .long (Int32.toInt64 (g 0 3)), .long (Int32.toInt64 (g 0 4))] [] nmX0_isIn ⟨rfl, rfl⟩ (ML.n q805) q355 q73 q356 dX10_isBright_32 rfl rfl (Nat.le_of_ble_eq_true rfl) ⟨Nat.le_of_ble_eq_true rfl, Nat.le_of_ble_eq_true rfl⟩ (mcX0_isInI cn g s (g 0 3) (g 0 4) (Int32.toInt64 s) (Int32.toInt64 (g 0 3)) (Int32.toInt64 (g 0 4)) rfl rfl rfl) ?_
    rintro _ _ ⟨rfl, rfl⟩
    refine AWC_ifb_eq (pc := 35) (tgt := 42) dX10_isBright_35 (by decide) (fun c2 => ?_) (fun c2 => ?_)
    · have hv := hv.1 c2
      refine AWC_iconst (pc := 42) (v := 0) dX10_isBright_42 (by decide) ?_
      exact AWC_iret (pc := 43) rfl (by decide) dX10_isBright_43 hv
    · have hv := hv.2 c2
      refine AWC_iconst (pc := 38) (v := 1) dX10_isBright_38 (by decide) ?_
      refine AWC_goto (pc := 39) (tgt := 43) dX10_isBright_39 (by decide) ?_
      exact AWC_iret (pc := 43) rfl (by decide) dX10_isBright_43 hv
theorem mcX10_isBright {G : Gl} {ad : Nat → Nat} (cn : Cn) (g : Tg) (T : Nat) (s : Int32) (hT1 : T < cT cn) (hT2 : T < 10) : MCC G ad cn MX10_isBright [.ref (ad (50 + T)), .int s] g (fun v0 g1 => v0 = some (.int (bI (brC g T s))) ∧ g = g1) := by
  refine MCC.of ⟨rfl, rfl⟩ (by decide) (Nat.le_of_ble_eq_true rfl) rfl (fun h0 => vcX10_isBright_0 g T s hT1 hT2 ?_)
  refine ⟨fun c => ?_, fun c => ⟨fun c2 => ?_, fun c2 => ?_⟩⟩
  · rw [brC, decide_eq_false c]; exact ⟨rfl, rfl⟩
  · rw [brC, c2, Bool.and_false]; exact ⟨rfl, rfl⟩
  · rw [brC, c2, decide_eq_true c]; exact ⟨rfl, rfl⟩
abbrev MX13_fitsIn : Mi := (yX13_fitsIn, cX13_fitsIn, 5, some .boolean, { frames := 3, cells := 0, slots := 0, locals := 63 })
theorem nmX13_fitsIn : Nm yX13_fitsIn 3 := ⟨by decide +kernel, by decide +kernel, by decide +kernel⟩
theorem vcX13_fitsIn_0 {G : Gl} {ad : Nat → Nat} {cn : Cn} {h0 : Hp} {Q : Option Value → Tg → Prop} (g : Tg) (L : Nat) (K : Nat) (T : Nat) (s : Int32) (hL : isLk cn L) (hK1 : K < 2 + cW cn) (hK2 : K < 10) (hT1 : T < cT cn) (hT2 : T < 10) (hv : (vp_in s 12) ∧ (((g (L) 1) < (g (40 + K) s.toNatClampNeg) → Q (some (.int 0)) g) ∧ (¬ (g (L) 1) < (g (40 + K) s.toNatClampNeg) → (((g (40 + K) s.toNatClampNeg) = 4 → Q (some (.int 0)) g) ∧ (¬ (g (40 + K) s.toNatClampNeg) = 4 → (((visC g T s) = false → Q (some (.int 0)) g) ∧ ((visC g T s) = true → (((g (L) 2) < (airC g T s) → Q (some (.int 0)) g) ∧ (¬ (g (L) 2) < (airC g T s) → (((g (L) 3) = 0 → Q (some (.int 1)) g) ∧ (¬ (g (L) 3) = 0 → (((brC g T s) = true → Q (some (.int 0)) g) ∧ ((brC g T s) = false → Q (some (.int 1)) g))))))))))))) :
    AWC G ad cn h0 MX13_fitsIn Q g 0 [(0, .ref (ad (L))), (1, .ref (ad (30 + K))), (2, .ref (ad (50 + T))), (3, .int s)] [] := by
  refine AWC_aload_n (pc := 0) dX13_fitsIn_0 rfl 1 rfl ?_
  refine AWC_getR (pc := 1) (30 + K) 0 (40 + K) (kB_sky hK1 hK2) (rB_see hK2) clX8 (by decide) rfl (FL.n q241) dX13_fitsIn_1 ?_
  refine AWC_iload_n (pc := 4) dX13_fitsIn_4 rfl 3 rfl ?_
  have h_1 := hv.1
  have hv := hv.2
  refine AWC_bald (pc := 5) (b := 40 + K) (n := 12) (kB_see hK1 hK2) dX13_fitsIn_5 h_1 ?_
  refine AWC_istore (pc := 6) (lv' := [(4, .int (g (40 + K) s.toNatClampNeg)), (0, .ref (ad (L))), (1, .ref (ad (30 + K))), (2, .ref (ad (50 + T))), (3, .int s)]) dX13_fitsIn_6 (by decide) rfl ?_
  refine AWC_iload (pc := 8) dX13_fitsIn_8 0 rfl ?_
  refine AWC_aload_n (pc := 10) dX13_fitsIn_10 rfl 1 rfl ?_
  refine AWC_getLk (pc := 11) (L) 1 hL (by decide) rfl rfl (FL.o q695) (FL.o q695) dX13_fitsIn_11 ?_
  refine AWC_icmp_gt (pc := 14) (tgt := 62) dX13_fitsIn_14 (by decide) (fun c2 => ?_) (fun c2 => ?_)
  · have hv := hv.1 c2
    refine AWC_iconst (pc := 62) (v := 0) dX13_fitsIn_62 (by decide) ?_
    exact AWC_iret (pc := 63) rfl (by decide) dX13_fitsIn_63 hv
  · have hv := hv.2 c2
    refine AWC_iload (pc := 17) dX13_fitsIn_17 0 rfl ?_
    refine AWC_iconst (pc := 19) (v := 4) dX13_fitsIn_19 (by decide) ?_
    refine AWC_icmp_eq (pc := 20) (tgt := 62) dX13_fitsIn_20 (by decide) (fun c3 => ?_) (fun c3 => ?_)
    · have hv := hv.1 c3
      refine AWC_iconst (pc := 62) (v := 0) dX13_fitsIn_62 (by decide) ?_
      exact AWC_iret (pc := 63) rfl (by decide) dX13_fitsIn_63 hv
    · have hv := hv.2 c3
      refine AWC_aload_n (pc := 23) dX13_fitsIn_23 rfl 3 rfl ?_
      refine AWC_iload_n (pc := 24) dX13_fitsIn_24 rfl 4 rfl ?_
      refine AWC_callV (M' := MX10_isVisible) (pc := 25) (a := 50 + T) [.int s] [] clX10 (kB_tgt hT1 hT2) rfl nmX10_isVisible ⟨rfl, rfl⟩ (ML.o q799) q396 q397 q83 q398 dX13_fitsIn_25 rfl rfl (Nat.le_of_ble_eq_true rfl) ⟨Nat.le_of_ble_eq_true rfl, Nat.le_of_ble_eq_true rfl⟩ (mcX10_isVisible cn g T s hT1 hT2) ?_
      rintro _ _ ⟨rfl, rfl⟩
      refine AWC_ifb_eq (pc := 28) (tgt := 62) dX13_fitsIn_28 (by decide) (fun c4 => ?_) (fun c4 => ?_)
      · have hv := hv.1 c4
        refine AWC_iconst (pc := 62) (v := 0) dX13_fitsIn_62 (by decide) ?_
        exact AWC_iret (pc := 63) rfl (by decide) dX13_fitsIn_63 hv
      · have hv := hv.2 c4
        refine AWC_aload_n (pc := 31) dX13_fitsIn_31 rfl 3 rfl ?_
        refine AWC_iload_n (pc := 32) dX13_fitsIn_32 rfl 4 rfl ?_
        refine AWC_callV (M' := MX10_air) (pc := 33) (a := 50 + T) [.int s] [] clX10 (kB_tgt hT1 hT2) rfl nmX10_air ⟨rfl, rfl⟩ (ML.o q800) q400 q401 q83 q402 dX13_fitsIn_33 rfl rfl (Nat.le_of_ble_eq_true rfl) ⟨Nat.le_of_ble_eq_true rfl, Nat.le_of_ble_eq_true rfl⟩ (mcX10_air cn g T s hT1 hT2) ?_
        rintro _ _ ⟨rfl, rfl⟩
        refine AWC_aload_n (pc := 36) dX13_fitsIn_36 rfl 1 rfl ?_
        refine AWC_getLk (pc := 37) (L) 2 hL (by decide) rfl rfl (FL.o q697) (FL.o q697) dX13_fitsIn_37 ?_
        refine AWC_icmp_gt (pc := 40) (tgt := 62) dX13_fitsIn_40 (by decide) (fun c5 => ?_) (fun c5 => ?_)
        · have hv := hv.1 c5
          refine AWC_iconst (pc := 62) (v := 0) dX13_fitsIn_62 (by decide) ?_
          exact AWC_iret (pc := 63) rfl (by decide) dX13_fitsIn_63 hv
        · have hv := hv.2 c5
          refine AWC_aload_n (pc := 43) dX13_fitsIn_43 rfl 1 rfl ?_
          refine AWC_getLk (pc := 44) (L) 3 hL (by decide) rfl rfl (FL.o q699) (FL.o q699) dX13_fitsIn_44 ?_
          refine AWC_if_eq (pc := 47) (tgt := 58) dX13_fitsIn_47 (by decide) (fun c6 => ?_) (fun c6 => ?_)
          · have hv := hv.1 c6
            refine AWC_iconst (pc := 58) (v := 1) dX13_fitsIn_58 (by decide) ?_
            refine AWC_goto (pc := 59) (tgt := 63) dX13_fitsIn_59 (by decide) ?_
            exact AWC_iret (pc := 63) rfl (by decide) dX13_fitsIn_63 hv
          · have hv := hv.2 c6
            refine AWC_aload_n (pc := 50) dX13_fitsIn_50 rfl 3 rfl ?_
            refine AWC_iload_n (pc := 51) dX13_fitsIn_51 rfl 4 rfl ?_
            refine AWC_callV (M' := MX10_isBright) (pc := 52) (a := 50 + T) [.int s] [] clX10 (kB_tgt hT1 hT2) rfl nmX10_isBright ⟨rfl, rfl⟩ (ML.o q801) q802 q803 q83 q804 dX13_fitsIn_52 rfl rfl (Nat.le_of_ble_eq_true rfl) ⟨Nat.le_of_ble_eq_true rfl, Nat.le_of_ble_eq_true rfl⟩ (mcX10_isBright cn g T s hT1 hT2) ?_
            rintro _ _ ⟨rfl, rfl⟩
            refine AWC_ifb_ne (pc := 55) (tgt := 62) dX13_fitsIn_55 (by decide) (fun c7 => ?_) (fun c7 => ?_)
            · have hv := hv.1 c7
              refine AWC_iconst (pc := 62) (v := 0) dX13_fitsIn_62 (by decide) ?_
              exact AWC_iret (pc := 63) rfl (by decide) dX13_fitsIn_63 hv
            · have hv := hv.2 c7
              refine AWC_iconst (pc := 58) (v := 1) dX13_fitsIn_58 (by decide) ?_
              refine AWC_goto (pc := 59) (tgt := 63) dX13_fitsIn_59 (by decide) ?_
              exact AWC_iret (pc := 63) rfl (by decide) dX13_fitsIn_63 hv
theorem mcX13_fitsIn {G : Gl} {ad : Nat → Nat} (cn : Cn) (g : Tg) (L : Nat) (K : Nat) (T : Nat) (s : Int32) (hL : isLk cn L) (hK1 : K < 2 + cW cn) (hK2 : K < 10) (hT1 : T < cT cn) (hT2 : T < 10) (h1 : vp_in s 12) (h2 : g L 3 = 0 ∨ g L 3 = 1) : MCC G ad cn MX13_fitsIn [.ref (ad (L)), .ref (ad (30 + K)), .ref (ad (50 + T)), .int s] g (fun v0 g1 => v0 = some (.int (bI (fitC g L K T s))) ∧ g = g1) := by
  refine MCC.of ⟨rfl, rfl⟩ (by decide) (Nat.le_of_ble_eq_true rfl) rfl (fun h0 => vcX13_fitsIn_0 g L K T s hL hK1 hK2 hT1 hT2 ?_)
  have no : ∀ {x : Bool}, x = false → (some (Value.int 0) : Option Value) = some (.int (bI x)) ∧ g = g := fun h => by subst h; exact ⟨rfl, rfl⟩
  have yes : ∀ {x : Bool}, x = true → (some (Value.int 1) : Option Value) = some (.int (bI x)) ∧ g = g := fun h => by subst h; exact ⟨rfl, rfl⟩
  refine ⟨h1, fun c => no (by simp [fitC, fitV, Int32.not_le.mpr c]), fun c => ⟨fun c2 => no (by simp [fitC, fitV, c2]), fun c2 => ⟨fun c3 => no (by simp [fitC, fitV, c3]), fun c3 => ⟨fun c4 => no (by simp [fitC, fitV, Int32.not_le.mpr c4]), fun c4 => ⟨fun c5 => yes ?_, fun c5 => ⟨fun c6 => no ?_, fun c6 => yes ?_⟩⟩⟩⟩⟩⟩
  · simp [fitC, fitV, Int32.not_lt.mp c, c2, c3, Int32.not_lt.mp c4, c5]
  · have c7 : g L 3 = 1 := h2.resolve_left c5
    simp [fitC, fitV, c6, c7]
  · simp [fitC, fitV, Int32.not_lt.mp c, c2, c3, Int32.not_lt.mp c4, c6]
theorem AWC_fitsIn {G : Gl} {ad : Nat → Nat} {cn : Cn} {h0 : Hp} {M : Mi} {Q : Option Value → Tg → Prop} {g : Tg} {pc : Nat} {lv : List (Nat × Value)} {st : List Value} {index a : Nat} {Q1 : Option Value → Tg → Prop} (As rest : List Value) (hB : isLk cn a) (hl1 : Cond.methodLink (mY M).cls index yX13_fitsIn ∈ lw_all) (hd : decode (mC M) pc = .ok (.invokevirtual index, 3)) (hst : st = As.reverse ++ .ref (ad a) :: rest) (hn : As.length = 3) (hr : (rest.map fun v => v.category).sum ≤ 8) (hR : Rm M MX13_fitsIn) (hM : MCC G ad cn MX13_fitsIn (.ref (ad a) :: As) g Q1)
    (kk : ∀ v g', Q1 v g' → AWC G ad cn h0 M Q g' (pc + 3) lv (v.toList ++ rest)) : AWC G ad cn h0 M Q g pc lv st := by
  rcases hB with hB | hB
  · exact AWC_callV (M' := MX13_fitsIn) As rest clX13 hB rfl nmX13_fitsIn ⟨rfl, rfl⟩ (ML.o hl1) q794 q795 q94 q798 hd hst hn hr hR hM kk
  · exact AWC_callU (M' := MX13_fitsIn) (owner := "SharedNights$Look") (x := yX13_fitsIn) As rest clX14 hB (by decide +kernel) ⟨rfl, rfl⟩ hl1 q796 (Or.inr ⟨q794, _, _, _, q798⟩) q797 q794 q94 q798 hd hst hn hr hR hM kk
/-- whether a look fits from a slot on, by the forecast -/
def fitsC (g : Tg) (L T : Nat) (a : Nat) : Bool := decide (a + (g L 0).toNatClampNeg ≤ (g 0 0).toNatClampNeg) && (List.range (g L 0).toNatClampNeg).all (fun i => fitC g L 0 T (nI (a + i)))
abbrev MX0_fits : Mi := (yX0_fits, cX0_fits, 6, some .boolean, { frames := 4, cells := 0, slots := 0, locals := 87 })
theorem nmX0_fits : Nm yX0_fits 3 := ⟨by decide +kernel, by decide +kernel, by decide +kernel⟩
theorem vcX0_fits_0 {G : Gl} {ad : Nat → Nat} {cn : Cn} {h0 : Hp} {Q : Option Value → Tg → Prop} (g : Tg) (L : Nat) (T : Nat) (a : Int32) (hL : isLk cn L) (hT1 : T < cT cn) (hT2 : T < 10) (hv : ((a < 0 → AWC G ad cn h0 MX0_fits Q g 27 [(0, .ref (ad 0)), (1, .ref (ad (L))), (2, .ref (ad (50 + T))), (3, .int a), (4, .int (bI false)), (5, .int a)] []) ∧ (¬ a < 0 → (((g 0 0) < (a + (g (L) 0)) → AWC G ad cn h0 MX0_fits Q g 27 [(0, .ref (ad 0)), (1, .ref (ad (L))), (2, .ref (ad (50 + T))), (3, .int a), (4, .int (bI false)), (5, .int a)] []) ∧ (¬ (g 0 0) < (a + (g (L) 0)) → AWC G ad cn h0 MX0_fits Q g 27 [(0, .ref (ad 0)), (1, .ref (ad (L))), (2, .ref (ad (50 + T))), (3, .int a), (4, .int (bI true)), (5, .int a)] []))))) :
    AWC G ad cn h0 MX0_fits Q g 0 [(0, .ref (ad 0)), (1, .ref (ad (L))), (2, .ref (ad (50 + T))), (3, .int a)] [] := by
  refine AWC_iload_n (pc := 0) dX0_fits_0 rfl 3 rfl ?_
  refine AWC_if_lt (pc := 1) (tgt := 21) dX0_fits_1 (by decide) (fun c1 => ?_) (fun c1 => ?_)
  · have hv := hv.1 c1
    refine AWC_iconst (pc := 21) (v := 0) dX0_fits_21 (by decide) ?_
    refine AWC_istore (pc := 22) (lv' := [(4, .int 0), (0, .ref (ad 0)), (1, .ref (ad (L))), (2, .ref (ad (50 + T))), (3, .int a)]) dX0_fits_22 (by decide) rfl ?_
    refine AWC_iload_n (pc := 24) dX0_fits_24 rfl 4 rfl ?_
    refine AWC_istore (pc := 25) (lv' := [(5, .int a), (4, .int 0), (0, .ref (ad 0)), (1, .ref (ad (L))), (2, .ref (ad (50 + T))), (3, .int a)]) dX0_fits_25 (by decide) rfl ?_
    refine AWC_lv (lv' := [(0, .ref (ad 0)), (1, .ref (ad (L))), (2, .ref (ad (50 + T))), (3, .int a), (4, .int 0), (5, .int a)]) [2, 3, 4, 5, 1, 0] rfl ?_
    exact hv
  · have hv := hv.2 c1
    refine AWC_iload_n (pc := 4) dX0_fits_4 rfl 3 rfl ?_
    refine AWC_aload_n (pc := 5) dX0_fits_5 rfl 1 rfl ?_
    refine AWC_getLk (pc := 6) (L) 0 hL (by decide) rfl rfl (FL.o q693) (FL.o q693) dX0_fits_6 ?_
    refine AWC_iadd (pc := 9) dX0_fits_9 ?_
    refine AWC_aload_n (pc := 10) dX0_fits_10 rfl 0 rfl ?_
    refine AWC_getI (pc := 11) (0) 0 rfl clX0 (by decide) rfl (FL.o q251) dX0_fits_11 ?_
    refine AWC_icmp_gt (pc := 14) (tgt := 21) dX0_fits_14 (by decide) (fun c2 => ?_) (fun c2 => ?_)
    · have hv := hv.1 c2
      refine AWC_iconst (pc := 21) (v := 0) dX0_fits_21 (by decide) ?_
      refine AWC_istore (pc := 22) (lv' := [(4, .int 0), (0, .ref (ad 0)), (1, .ref (ad (L))), (2, .ref (ad (50 + T))), (3, .int a)]) dX0_fits_22 (by decide) rfl ?_
      refine AWC_iload_n (pc := 24) dX0_fits_24 rfl 4 rfl ?_
      refine AWC_istore (pc := 25) (lv' := [(5, .int a), (4, .int 0), (0, .ref (ad 0)), (1, .ref (ad (L))), (2, .ref (ad (50 + T))), (3, .int a)]) dX0_fits_25 (by decide) rfl ?_
      refine AWC_lv (lv' := [(0, .ref (ad 0)), (1, .ref (ad (L))), (2, .ref (ad (50 + T))), (3, .int a), (4, .int 0), (5, .int a)]) [2, 3, 4, 5, 1, 0] rfl ?_
      exact hv
    · have hv := hv.2 c2
      refine AWC_iconst (pc := 17) (v := 1) dX0_fits_17 (by decide) ?_
      refine AWC_goto (pc := 18) (tgt := 22) dX0_fits_18 (by decide) ?_
      refine AWC_istore (pc := 22) (lv' := [(4, .int 1), (0, .ref (ad 0)), (1, .ref (ad (L))), (2, .ref (ad (50 + T))), (3, .int a)]) dX0_fits_22 (by decide) rfl ?_
      refine AWC_iload_n (pc := 24) dX0_fits_24 rfl 4 rfl ?_
      refine AWC_istore (pc := 25) (lv' := [(5, .int a), (4, .int 1), (0, .ref (ad 0)), (1, .ref (ad (L))), (2, .ref (ad (50 + T))), (3, .int a)]) dX0_fits_25 (by decide) rfl ?_
      refine AWC_lv (lv' := [(0, .ref (ad 0)), (1, .ref (ad (L))), (2, .ref (ad (50 + T))), (3, .int a), (4, .int 1), (5, .int a)]) [2, 3, 4, 5, 1, 0] rfl ?_
      exact hv
theorem vcX0_fits_27 {G : Gl} {ad : Nat → Nat} {cn : Cn} {h0 : Hp} {Q : Option Value → Tg → Prop} (g : Tg) (L : Nat) (T : Nat) (a : Int32) (is : Bool) (s : Int32) (hL : isLk cn L) (hT1 : T < cT cn) (hT2 : T < 10) (hv : ((is = false → Q (some (.int (bI is))) g) ∧ (is = true → (((a + (g (L) 0)) ≤ s → Q (some (.int (bI is))) g) ∧ (¬ (a + (g (L) 0)) ≤ s → (0 < 2 + cW cn) ∧ (vp_in s 12) ∧ (g L 3 = 0 ∨ g L 3 = 1) ∧ AWC G ad cn h0 MX0_fits Q g 27 [(0, .ref (ad 0)), (1, .ref (ad (L))), (2, .ref (ad (50 + T))), (3, .int a), (4, .int (bI (fitC g L 0 T s))), (5, .int (s + 1))] []))))) :
    AWC G ad cn h0 MX0_fits Q g 27 [(0, .ref (ad 0)), (1, .ref (ad (L))), (2, .ref (ad (50 + T))), (3, .int a), (4, .int (bI is)), (5, .int s)] [] := by
  refine AWC_iload (pc := 27) dX0_fits_27 4 rfl ?_
  refine AWC_ifb_eq (pc := 29) (tgt := 64) dX0_fits_29 (by decide) (fun c1 => ?_) (fun c1 => ?_)
  · have hv := hv.1 c1
    refine AWC_iload (pc := 64) dX0_fits_64 4 rfl ?_
    exact AWC_iret (pc := 66) rfl (bI_nar _) dX0_fits_66 hv
  · have hv := hv.2 c1
    refine AWC_iload (pc := 32) dX0_fits_32 5 rfl ?_
    refine AWC_iload_n (pc := 34) dX0_fits_34 rfl 3 rfl ?_
    refine AWC_aload_n (pc := 35) dX0_fits_35 rfl 1 rfl ?_
    refine AWC_getLk (pc := 36) (L) 0 hL (by decide) rfl rfl (FL.o q693) (FL.o q693) dX0_fits_36 ?_
    refine AWC_iadd (pc := 39) dX0_fits_39 ?_
    refine AWC_icmp_ge (pc := 40) (tgt := 64) dX0_fits_40 (by decide) (fun c2 => ?_) (fun c2 => ?_)
    · have hv := hv.1 c2
      refine AWC_iload (pc := 64) dX0_fits_64 4 rfl ?_
      exact AWC_iret (pc := 66) rfl (bI_nar _) dX0_fits_66 hv
    · have hv := hv.2 c2
      refine AWC_aload_n (pc := 43) dX0_fits_43 rfl 1 rfl ?_
      refine AWC_aload_n (pc := 44) dX0_fits_44 rfl 0 rfl ?_
      refine AWC_getR (pc := 45) (0) 5 (7) rfl rfl clX0 (by decide) rfl (FL.o q264) dX0_fits_45 ?_
      refine AWC_iconst (pc := 48) (v := 0) dX0_fits_48 (by decide) ?_
      have h_3 := hv.1
      have hv := hv.2
      refine AWC_aald (pc := 49) (b := 7) (b' := 30 + 0) (t := 3) (n := 6) rfl (rB_sky h_3) (by decide) (by decide) dX0_fits_49 (pk_in 0 6 (by decide)) ?_
      refine AWC_aload_n (pc := 50) dX0_fits_50 rfl 2 rfl ?_
      refine AWC_iload (pc := 51) dX0_fits_51 5 rfl ?_
      have h_4 := hv.1
      have hv := hv.2
      have h_5 := hv.1
      have hv := hv.2
      refine AWC_fitsIn (pc := 53) (a := L) [.ref (ad (30 + 0)), .ref (ad (50 + T)), .int s] [] hL q793 dX0_fits_53 rfl rfl (Nat.le_of_ble_eq_true rfl) ⟨Nat.le_of_ble_eq_true rfl, Nat.le_of_ble_eq_true rfl⟩ (mcX13_fitsIn cn g L 0 T s hL h_3 (by decide) hT1 hT2 h_4 h_5) ?_
      rintro _ _ ⟨rfl, rfl⟩
      refine AWC_istore (pc := 56) (lv' := [(4, .int (bI (fitC g L 0 T s))), (0, .ref (ad 0)), (1, .ref (ad (L))), (2, .ref (ad (50 + T))), (3, .int a), (5, .int s)]) dX0_fits_56 (by decide) rfl ?_
      refine AWC_iinc (pc := 58) (v := s + 1) (lv' := [(5, .int (s + 1)), (4, .int (bI (fitC g L 0 T s))), (0, .ref (ad 0)), (1, .ref (ad (L))), (2, .ref (ad (50 + T))), (3, .int a)]) dX0_fits_58 5 rfl rfl (by decide) rfl ?_
      refine AWC_goto (pc := 61) (tgt := 27) dX0_fits_61 (by decide) ?_
      refine AWC_lv (lv' := [(0, .ref (ad 0)), (1, .ref (ad (L))), (2, .ref (ad (50 + T))), (3, .int a), (4, .int (bI (fitC g L 0 T s))), (5, .int (s + 1))]) [2, 3, 4, 5, 1, 0] rfl ?_
      exact hv
theorem mcX0_fits {G : Gl} {ad : Nat → Nat} (cn : Cn) (g : Tg) (L : Nat) (T : Nat) (a : Int32) (hL : isLk cn L) (hT1 : T < cT cn) (hT2 : T < 10) (h1 : ∃ A k n : Nat, a = nI A ∧ A < 1000 ∧ g L 0 = nI k ∧ k ≤ 4 ∧ g 0 0 = nI n ∧ n ≤ 12) (h2 : g L 3 = 0 ∨ g L 3 = 1) : MCC G ad cn MX0_fits [.ref (ad 0), .ref (ad (L)), .ref (ad (50 + T)), .int a] g (fun v0 g1 => v0 = some (.int (bI (fitsC g L T a.toNatClampNeg))) ∧ g = g1) := by
  refine MCC.of ⟨rfl, rfl⟩ (by decide) (Nat.le_of_ble_eq_true rfl) rfl (fun h0 => vcX0_fits_0 g L T a hL hT1 hT2 ?_)
  obtain ⟨a, k, n, rfl, ha, hk, hk4, hn, hn12⟩ := h1
  have hkN : (g L 0).toNatClampNeg = k := by rw [hk]; exact nc k
  have hnN : (g 0 0).toNatClampNeg = n := by rw [hn]; exact nc n
  have hfin : fitsC g L T (nI a).toNatClampNeg = (decide (a + k ≤ n) && (List.range k).all (fun i => fitC g L 0 T (nI (a + i)))) := by
    unfold fitsC
    rw [nc a, hkN, hnN]
  rw [hfin]
  have key : ∀ i, i ≤ k → a + k ≤ n → (∀ l, l < i → fitC g L 0 T (nI (a + l)) = true) → AWC G ad cn h0 MX0_fits (fun v0 g1 => v0 = some (.int (bI (decide (a + k ≤ n) && (List.range k).all (fun i => fitC g L 0 T (nI (a + i)))))) ∧ g = g1) g 27 [(0, .ref (ad 0)), (1, .ref (ad (L))), (2, .ref (ad (50 + T))), (3, .int (nI a)), (4, .int (bI true)), (5, .int (nI (a + i)))] [] := by
    refine loopUp k ?_ ?_
    · intro hle hall
      refine vcX0_fits_27 g L T _ _ _ hL hT1 hT2 ⟨fun z => absurd z (by decide), fun _ => ?_⟩
      rw [hk, nI_add]
      refine pk_le (a + k) (a + k) (fun _ => ⟨?_, rfl⟩) (fun z => by omega)
      congr 3
      symm
      rw [Bool.and_eq_true, decide_eq_true_eq, List.all_eq_true]
      exact ⟨hle, fun l hl => hall l (List.mem_range.mp hl)⟩
    · intro i hi ih hle hall
      refine vcX0_fits_27 g L T _ _ _ hL hT1 hT2 ⟨fun z => absurd z (by decide), fun _ => ?_⟩
      rw [hk, nI_add]
      refine pk_le (a + k) (a + i) (fun z => by omega) (fun _ => ⟨by omega, vp_in_nI (by omega) (by decide), h2, ?_⟩)
      rw [nI_1]
      cases c : fitC g L 0 T (nI (a + i)) with
      | true =>
        exact ih hle (fun l hl => by
          rcases Nat.lt_or_ge l i with z2 | z2
          · exact hall l z2
          · rw [show l = i by omega]; exact c)
      | false =>
        refine vcX0_fits_27 g L T _ _ _ hL hT1 hT2 ⟨fun _ => ⟨?_, rfl⟩, fun z => absurd z (by decide)⟩
        congr 3
        symm
        rw [Bool.and_eq_false_iff]
        right
        rw [List.all_eq_false]
        exact ⟨i, List.mem_range.mpr hi, by rw [c]; decide⟩
  refine ⟨fun z => absurd z (nI_pos (by omega)), fun _ => ?_⟩
  rw [hn, hk, nI_add]
  refine pk_lt n (a + k) (fun z => ?_) (fun z => ?_)
  · refine vcX0_fits_27 g L T _ _ _ hL hT1 hT2 ⟨fun _ => ⟨?_, rfl⟩, fun z => absurd z (by decide)⟩
    rw [decide_eq_false (by omega)]
    rfl
  · exact key 0 (by omega) z (fun l hl => by omega)
