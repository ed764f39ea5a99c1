/-! ===== the component: plain public methods (printed by h19.py) ===== -/
theorem up2_o (g : Tg) (a i : Nat) (v : Int32) {b j : Nat} (h : ¬ (b = a ∧ j = i)) : up2 g a i v b j = g b j := by unfold up2; rw [if_neg h]
theorem upd_o (f : Tf) {k j : Nat} (v : Int32) (h : j ≠ k) : upd f k v j = f j := by simp [upd, h]
/-- a plain int field is set on both sides -/
theorem Rel.int {cn : Cn} {c : Tg} {f : Tf} {g : Tg} (h : Rel cn c f g) (k k' : Nat) (v : Int32) (hk : (k, k') ∈ [(0, 0), (1, 1), (2, 6), (3, 7), (4, 8), (17, 31), (25, 39)]) : Rel cn (up2 c 0 k v) (upd f k' v) g := by
  obtain ⟨⟨a1, a2, a3, a4, a5, a6, a7, a8, a9, a10, a11⟩, hc, h1, h2, h3, h4, h5, h6, h7⟩ := h
  have z : ∀ (b j : Nat), b ≠ 0 → up2 c 0 k v b j = c b j := fun b j hb => up2_n _ _ _ _ hb
  have sc : ∀ (x y : Nat), c 0 x = f y → (x = k ↔ y = k') → up2 c 0 k v 0 x = upd f k' v y := fun x y e i => by
    unfold up2 upd
    by_cases hx : x = k
    · rw [if_pos ⟨rfl, hx⟩, if_pos (i.mp hx)]
    · rw [if_neg (fun w => hx w.2), if_neg (fun w => hx (i.mpr w)), e]
  have f2 : upd f k' v 2 = f 2 := upd_o f v (by simp only [List.mem_cons, Prod.mk.injEq, List.not_mem_nil, or_false] at hk; omega)
  have f10 : upd f k' v 10 = f 10 := upd_o f v (by simp only [List.mem_cons, Prod.mk.injEq, List.not_mem_nil, or_false] at hk; omega)
  have f21 : upd f k' v 21 = f 21 := upd_o f v (by simp only [List.mem_cons, Prod.mk.injEq, List.not_mem_nil, or_false] at hk; omega)
  have f12 : upd f k' v 12 = f 12 := upd_o f v (by simp only [List.mem_cons, Prod.mk.injEq, List.not_mem_nil, or_false] at hk; omega)
  simp only [List.mem_cons, Prod.mk.injEq, List.not_mem_nil, or_false] at hk
  refine ⟨⟨sc 0 0 a1 (by omega), sc 1 1 a2 (by omega), sc 2 6 a3 (by omega), sc 3 7 a4 (by omega), sc 4 8 a5 (by omega), sc 6 10 a6 (by omega), sc 8 2 a7 (by omega), sc 10 21 a8 (by omega), sc 12 12 a9 (by omega), sc 17 31 a10 (by omega), sc 25 39 a11 (by omega)⟩, ?_, fun k1 hk1 s hs => ?_, fun k1 hk1 => ?_, fun i hi => ?_, fun p hp => ?_, fun i hi => ?_, fun l hl => ?_, fun l hl => ?_⟩
  · rw [f2, f10, f21]; exact hc
  · rw [z _ _ (by omega)]; exact h1 k1 hk1 s hs
  · rw [z _ _ (by omega)]; exact h2 k1 hk1
  · rw [z _ _ (by omega), z _ _ (by omega), z _ _ (by omega)]; exact h3 i hi
  · obtain ⟨b1, b2, b3, b4, b5, b6⟩ := h4 p hp
    rw [z _ _ (by omega), z _ _ (by omega), z _ _ (by omega), z _ _ (by omega), z _ _ (by omega)]
    exact ⟨b1, b2, b3, b4, b5, fun j hj k2 hk2 => by rw [z _ _ (by omega)]; exact b6 j hj k2 hk2⟩
  · rw [f12] at hi; rw [z _ _ (by omega)]; exact h5 i hi
  · rw [z _ _ (by omega)]; exact h6 l hl
  · rw [z _ _ (by omega)]; exact h7 l hl
theorem Rel.share {cn : Cn} {c : Tg} {f : Tf} {g : Tg} (h : Rel cn c f g) (l : Nat) (v : Int32) : Rel cn (up2 c 13 l v) f (up2 g 37 l v) := by
  obtain ⟨⟨a1, a2, a3, a4, a5, a6, a7, a8, a9, a10, a11⟩, hc, h1, h2, h3, h4, h5, h6, h7⟩ := h
  have z : ∀ (b j : Nat), b ≠ 13 → up2 c 13 l v b j = c b j := fun b j hb => up2_n _ _ _ _ hb
  have y : ∀ (b j : Nat), b ≠ 37 → up2 g 37 l v b j = g b j := fun b j hb => up2_n _ _ _ _ hb
  refine ⟨by simp only [z _ _ (show (0 : Nat) ≠ 13 by decide)]; exact ⟨a1, a2, a3, a4, a5, a6, a7, a8, a9, a10, a11⟩, by simp only [y _ _ (show (22 : Nat) ≠ 37 by decide)]; exact hc, fun k1 hk1 s hs => ?_, fun k1 hk1 => ?_, fun i hi => ?_, fun p hp => ?_, fun i hi => ?_, fun j hj => ?_, fun j hj => ?_⟩
  · rw [z _ _ (by omega), y _ _ (by decide)]; exact h1 k1 hk1 s hs
  · rw [z _ _ (by omega), y _ _ (by decide)]; exact h2 k1 hk1
  · rw [z _ _ (by omega), z _ _ (by omega), z _ _ (by omega), y _ _ (by decide), y _ _ (by decide), y _ _ (by decide)]; exact h3 i hi
  · obtain ⟨b1, b2, b3, b4, b5, b6⟩ := h4 p hp
    simp only [y _ _ (show (22 : Nat) ≠ 37 by decide)]
    rw [z _ _ (by omega), z _ _ (by omega), z _ _ (by omega), z _ _ (by omega), z _ _ (by omega)]
    exact ⟨b1, b2, b3, b4, b5, fun j hj k2 hk2 => by rw [z _ _ (by omega)]; exact b6 j hj k2 hk2⟩
  · rw [z _ _ (by omega), y _ _ (by decide)]; exact h5 i hi
  · rw [up2_i, up2_i, h6 j hj]
  · rw [z _ _ (by omega), y _ _ (by decide)]; exact h7 j hj
abbrev MX0_again : Mi := (yX0_again, cX0_again, 3, some .int, { frames := 1, cells := 0, slots := 0, locals := 25 })
theorem nmX0_again : Nm yX0_again 1 := ⟨by decide +kernel, by decide +kernel, by decide +kernel⟩
theorem vcX0_again_0 {G : Gl} {ad : Nat → Nat} {cn : Cn} {h0 : Hp} {Q : Option Value → Tg → Prop} (g : Tg) (f : Tf) (gt : Tg) (v : Int32)  (hv : (((inB v 0 1) = true → Q (some (.int (g 0 17))) (up2 g 0 17 v)) ∧ ((inB v 0 1) = false → Q (some (.int (-3))) g))) :
    AWC G ad cn h0 MX0_again Q g 0 [(0, .ref (ad 0)), (1, .int v)] [] := by
  refine AWC_iload_n (pc := 0) dX0_again_0 rfl 1 rfl ?_
  refine AWC_i2l (pc := 1) dX0_again_1 ?_
  refine AWC_lconst (pc := 2) (v := 0) dX0_again_2 (by decide) ?_
  refine AWC_lconst (pc := 3) (v := 1) dX0_again_3 (by decide) ?_
  refine AWC_callS (M' := MX0_isIn) (pc := 4) [.long (Int32.toInt64 v), .long 0, .long 1] [] nmX0_isIn ⟨rfl, rfl⟩ (ML.o q354) q355 q73 q356 dX0_again_4 rfl rfl (Nat.le_of_ble_eq_true rfl) ⟨Nat.le_of_ble_eq_true rfl, Nat.le_of_ble_eq_true rfl⟩ (mcX0_isInI cn g v 0 1 (Int32.toInt64 v) 0 1 rfl rfl rfl) ?_
  rintro _ _ ⟨rfl, rfl⟩
  refine AWC_ifb_ne (pc := 7) (tgt := 13) dX0_again_7 (by decide) (fun c1 => ?_) (fun c1 => ?_)
  · have hv := hv.1 c1
    refine AWC_aload_n (pc := 13) dX0_again_13 rfl 0 rfl ?_
    refine AWC_getI (pc := 14) (0) 17 rfl clX0 (by decide) rfl (FL.o q285) dX0_again_14 ?_
    refine AWC_istore_n (pc := 17) (lv' := [(2, .int (g 0 17)), (0, .ref (ad 0)), (1, .int v)]) dX0_again_17 rfl (by decide) rfl ?_
    refine AWC_aload_n (pc := 18) dX0_again_18 rfl 1 rfl ?_
    refine AWC_iload_n (pc := 19) dX0_again_19 rfl 2 rfl ?_
    refine AWC_putI (pc := 20) (0) 17 rfl clX0 (by decide) rfl (FL.o q285) rfl dX0_again_20 ?_
    refine AWC_iload_n (pc := 23) dX0_again_23 rfl 0 rfl ?_
    exact AWC_iret (pc := 24) rfl rfl dX0_again_24 hv
  · have hv := hv.2 c1
    refine AWC_bipush (pc := 10) (v := (-3)) dX0_again_10 (by decide) ?_
    exact AWC_iret (pc := 12) rfl rfl dX0_again_12 hv
theorem mcX0_again {G : Gl} {ad : Nat → Nat} (cn : Cn) (g : Tg) (f : Tf) (gt : Tg) (v : Int32) (h1 : Rel cn g f gt) : MCC G ad cn MX0_again [.ref (ad 0), .int v] g (fun v0 g1 => ∃ r, v0 = some (.int r) ∧ r = rAgain f v ∧ Rel cn g1 (fAgain f v) gt) := by
  refine MCC.of ⟨rfl, rfl⟩ (by decide) (Nat.le_of_ble_eq_true rfl) rfl (fun h0 => vcX0_again_0 g f gt v  ?_)
  have a10 := h1.1.2.2.2.2.2.2.2.2.2.1
  exact ⟨fun c => ⟨_, rfl, by simp [rAgain, c, a10], by simp only [fAgain, c, if_true]; exact h1.int 17 31 v (by decide)⟩, fun c => ⟨_, rfl, by simp [rAgain, c], by simpa [fAgain, c] using h1⟩⟩
abbrev MX0_moon : Mi := (yX0_moon, cX0_moon, 4, some .int, { frames := 2, cells := 0, slots := 0, locals := 46 })
theorem nmX0_moon : Nm yX0_moon 3 := ⟨by decide +kernel, by decide +kernel, by decide +kernel⟩
theorem vcX0_moon_0 {G : Gl} {ad : Nat → Nat} {cn : Cn} {h0 : Hp} {Q : Option Value → Tg → Prop} (g : Tg) (f : Tf) (gt : Tg) (w : Int32) (a : Int32) (b : Int32)  (hv : (((inB w 0 3) = false → Q (some (.int (-3))) g) ∧ ((inB w 0 3) = true → (((inB a 0 (g 0 0 - 1)) = false → Q (some (.int (-3))) g) ∧ ((inB a 0 (g 0 0 - 1)) = true → (((inB b a ((g 0 0) - 1)) = true → Q (some (.int 1)) (up2 (up2 (up2 g 0 2 w) 0 3 a) 0 4 b)) ∧ ((inB b a ((g 0 0) - 1)) = false → Q (some (.int (-3))) g))))))) :
    AWC G ad cn h0 MX0_moon Q g 0 [(0, .ref (ad 0)), (1, .int w), (2, .int a), (3, .int b)] [] := by
  refine AWC_iload_n (pc := 0) dX0_moon_0 rfl 1 rfl ?_
  refine AWC_i2l (pc := 1) dX0_moon_1 ?_
  refine AWC_lconst (pc := 2) (v := 0) dX0_moon_2 (by decide) ?_
  refine AWC_ldc2 (pc := 3) q364 dX0_moon_3 ?_
  refine AWC_callS (M' := MX0_isIn) (pc := 6) [.long (Int32.toInt64 w), .long 0, .long 3] [] nmX0_isIn ⟨rfl, rfl⟩ (ML.o q354) q355 q73 q356 dX0_moon_6 rfl rfl (Nat.le_of_ble_eq_true rfl) ⟨Nat.le_of_ble_eq_true rfl, Nat.le_of_ble_eq_true rfl⟩ (mcX0_isInI cn g w 0 3 (Int32.toInt64 w) 0 3 rfl rfl rfl) ?_
  rintro _ _ ⟨rfl, rfl⟩
  refine AWC_ifb_eq (pc := 9) (tgt := 37) dX0_moon_9 (by decide) (fun c1 => ?_) (fun c1 => ?_)
  · have hv := hv.1 c1
    refine AWC_bipush (pc := 37) (v := (-3)) dX0_moon_37 (by decide) ?_
    exact AWC_iret (pc := 39) rfl rfl dX0_moon_39 hv
  · have hv := hv.2 c1
    refine AWC_aload_n (pc := 12) dX0_moon_12 rfl 0 rfl ?_
    refine AWC_iload_n (pc := 13) dX0_moon_13 rfl 2 rfl ?_
    refine AWC_callV (M' := MX0_isSlot) (pc := 14) (a := 0) [.int a] [] clX0 rfl rfl nmX0_isSlot ⟨rfl, rfl⟩ (ML.o q391) q393 qs1 q73 q394 dX0_moon_14 rfl rfl (Nat.le_of_ble_eq_true rfl) ⟨Nat.le_of_ble_eq_true rfl, Nat.le_of_ble_eq_true rfl⟩ (mcX0_isSlot cn g  a ) ?_
    rintro _ _ ⟨rfl, rfl⟩
    refine AWC_ifb_eq (pc := 17) (tgt := 37) dX0_moon_17 (by decide) (fun c2 => ?_) (fun c2 => ?_)
    · have hv := hv.1 c2
      refine AWC_bipush (pc := 37) (v := (-3)) dX0_moon_37 (by decide) ?_
      exact AWC_iret (pc := 39) rfl rfl dX0_moon_39 hv
    · have hv := hv.2 c2
      refine AWC_iload_n (pc := 20) dX0_moon_20 rfl 3 rfl ?_
      refine AWC_i2l (pc := 21) dX0_moon_21 ?_
      refine AWC_iload_n (pc := 22) dX0_moon_22 rfl 2 rfl ?_
      refine AWC_i2l (pc := 23) dX0_moon_23 ?_
      refine AWC_aload_n (pc := 24) dX0_moon_24 rfl 0 rfl ?_
      refine AWC_getI (pc := 25) (0) 0 rfl clX0 (by decide) rfl (FL.o q251) dX0_moon_25 ?_
      refine AWC_iconst (pc := 28) (v := 1) dX0_moon_28 (by decide) ?_
      refine AWC_isub (pc := 29) dX0_moon_29 ?_
      refine AWC_i2l (pc := 30) dX0_moon_30 ?_
      refine AWC_callS (M' := MX0_isIn) (pc := 31) [.long (Int32.toInt64 b), .long (Int32.toInt64 a), .long (Int32.toInt64 ((g 0 0) - 1))] [] nmX0_isIn ⟨rfl, rfl⟩ (ML.o q354) q355 q73 q356 dX0_moon_31 rfl rfl (Nat.le_of_ble_eq_true rfl) ⟨Nat.le_of_ble_eq_true rfl, Nat.le_of_ble_eq_true rfl⟩ (mcX0_isInI cn g b a ((g 0 0) - 1) (Int32.toInt64 b) (Int32.toInt64 a) (Int32.toInt64 ((g 0 0) - 1)) rfl rfl rfl) ?_
      rintro _ _ ⟨rfl, rfl⟩
      refine AWC_ifb_ne (pc := 34) (tgt := 40) dX0_moon_34 (by decide) (fun c3 => ?_) (fun c3 => ?_)
      · have hv := hv.1 c3
        refine AWC_aload_n (pc := 40) dX0_moon_40 rfl 0 rfl ?_
        refine AWC_iload_n (pc := 41) dX0_moon_41 rfl 1 rfl ?_
        refine AWC_putI (pc := 42) (0) 2 rfl clX0 (by decide) rfl (FL.o q257) rfl dX0_moon_42 ?_
        refine AWC_aload_n (pc := 45) dX0_moon_45 rfl 0 rfl ?_
        refine AWC_iload_n (pc := 46) dX0_moon_46 rfl 2 rfl ?_
        refine AWC_putI (pc := 47) (0) 3 rfl clX0 (by decide) rfl (FL.o q260) rfl dX0_moon_47 ?_
        refine AWC_aload_n (pc := 50) dX0_moon_50 rfl 0 rfl ?_
        refine AWC_iload_n (pc := 51) dX0_moon_51 rfl 3 rfl ?_
        refine AWC_putI (pc := 52) (0) 4 rfl clX0 (by decide) rfl (FL.o q262) rfl dX0_moon_52 ?_
        refine AWC_iconst (pc := 55) (v := 1) dX0_moon_55 (by decide) ?_
        exact AWC_iret (pc := 56) rfl rfl dX0_moon_56 hv
      · have hv := hv.2 c3
        refine AWC_bipush (pc := 37) (v := (-3)) dX0_moon_37 (by decide) ?_
        exact AWC_iret (pc := 39) rfl rfl dX0_moon_39 hv
theorem mcX0_moon {G : Gl} {ad : Nat → Nat} (cn : Cn) (g : Tg) (f : Tf) (gt : Tg) (w : Int32) (a : Int32) (b : Int32) (h1 : Rel cn g f gt) : MCC G ad cn MX0_moon [.ref (ad 0), .int w, .int a, .int b] g (fun v0 g1 => ∃ r, v0 = some (.int r) ∧ r = rMoon f w a b ∧ Rel cn g1 (fMoon f w a b) gt) := by
  refine MCC.of ⟨rfl, rfl⟩ (by decide) (Nat.le_of_ble_eq_true rfl) rfl (fun h0 => vcX0_moon_0 g f gt w a b  ?_)
  have a1 := h1.1.1
  rw [a1]
  refine ⟨fun c => ⟨_, rfl, by simp [rMoon, okMoon, c], by simpa [fMoon, okMoon, c] using h1⟩, fun c => ⟨fun c2 => ⟨_, rfl, by simp [rMoon, okMoon, c, c2], by simpa [fMoon, okMoon, c, c2] using h1⟩, fun c2 => ⟨fun c3 => ?_, fun c3 => ?_⟩⟩⟩
  · have e : okMoon f w a b = true := by
      obtain ⟨z1, z2⟩ := inB_t.mp c3
      obtain ⟨y1, y2⟩ := inB_t.mp c2
      simp [okMoon, c, c2, z1, inB_t, z2, Int32.le_trans y1 z1]
    exact ⟨_, rfl, by simp [rMoon, e], by simp only [fMoon, e, if_true]; exact ((h1.int 2 6 w (by decide)).int 3 7 a (by decide)).int 4 8 b (by decide)⟩
  · have e : okMoon f w a b = false := by
      rw [← Bool.not_eq_true]
      intro z
      simp only [okMoon, Bool.and_eq_true, decide_eq_true_eq] at z
      have := inB_t.mp z.2.2.1
      rw [inB_t.mpr ⟨z.2.2.2, this.2⟩] at c3
      cases c3
    exact ⟨_, rfl, by simp [rMoon, e], by simpa [fMoon, e] using h1⟩
abbrev MX0_share : Mi := (yX0_share, cX0_share, 4, some .int, { frames := 2, cells := 0, slots := 0, locals := 45 })
theorem nmX0_share : Nm yX0_share 2 := ⟨by decide +kernel, by decide +kernel, by decide +kernel⟩
theorem vcX0_share_0 {G : Gl} {ad : Nat → Nat} {cn : Cn} {h0 : Hp} {Q : Option Value → Tg → Prop} (g : Tg) (f : Tf) (gt : Tg) (l : Int32) (v : Int32)  (hv : (((inB l 0 3) = true → (((inB v 1 20) = true → (vp_in l 4) ∧ (vp_in l 4) ∧ Q (some (.int (g 13 l.toNatClampNeg))) (up2 g 13 l.toNatClampNeg v)) ∧ ((inB v 1 20) = false → Q (some (.int (-3))) g))) ∧ ((inB l 0 3) = false → Q (some (.int (-2))) g))) :
    AWC G ad cn h0 MX0_share Q g 0 [(0, .ref (ad 0)), (1, .int l), (2, .int v)] [] := by
  refine AWC_iload_n (pc := 0) dX0_share_0 rfl 1 rfl ?_
  refine AWC_callS (M' := MX0_isLand) (pc := 1) [.int l] [] nmX0_isLand ⟨rfl, rfl⟩ (ML.o q1008) q1009 q73 q1010 dX0_share_1 rfl rfl (Nat.le_of_ble_eq_true rfl) ⟨Nat.le_of_ble_eq_true rfl, Nat.le_of_ble_eq_true rfl⟩ (mcX0_isLand cn g  l ) ?_
  rintro _ _ ⟨rfl, rfl⟩
  refine AWC_ifb_ne (pc := 4) (tgt := 10) dX0_share_4 (by decide) (fun c1 => ?_) (fun c1 => ?_)
  · have hv := hv.1 c1
    refine AWC_iload_n (pc := 10) dX0_share_10 rfl 2 rfl ?_
    refine AWC_i2l (pc := 11) dX0_share_11 ?_
    refine AWC_lconst (pc := 12) (v := 1) dX0_share_12 (by decide) ?_
    refine AWC_ldc2 (pc := 13) q1011 dX0_share_13 ?_
    refine AWC_callS (M' := MX0_isIn) (pc := 16) [.long (Int32.toInt64 v), .long 1, .long 20] [] nmX0_isIn ⟨rfl, rfl⟩ (ML.o q354) q355 q73 q356 dX0_share_16 rfl rfl (Nat.le_of_ble_eq_true rfl) ⟨Nat.le_of_ble_eq_true rfl, Nat.le_of_ble_eq_true rfl⟩ (mcX0_isInI cn g v 1 20 (Int32.toInt64 v) 1 20 rfl rfl rfl) ?_
    rintro _ _ ⟨rfl, rfl⟩
    refine AWC_ifb_ne (pc := 19) (tgt := 25) dX0_share_19 (by decide) (fun c2 => ?_) (fun c2 => ?_)
    · have hv := hv.1 c2
      refine AWC_aload_n (pc := 25) dX0_share_25 rfl 0 rfl ?_
      refine AWC_getR (pc := 26) (0) 23 (13) rfl rfl clX0 (by decide) rfl (FL.o q292) dX0_share_26 ?_
      refine AWC_iload_n (pc := 29) dX0_share_29 rfl 1 rfl ?_
      have h_3 := hv.1
      have hv := hv.2
      refine AWC_iald (pc := 30) (b := 13) (n := 4) rfl dX0_share_30 h_3 ?_
      refine AWC_istore_n (pc := 31) (lv' := [(3, .int (g 13 l.toNatClampNeg)), (0, .ref (ad 0)), (1, .int l), (2, .int v)]) dX0_share_31 rfl (by decide) rfl ?_
      refine AWC_aload_n (pc := 32) dX0_share_32 rfl 1 rfl ?_
      refine AWC_getR (pc := 33) (0) 23 (13) rfl rfl clX0 (by decide) rfl (FL.o q292) dX0_share_33 ?_
      refine AWC_iload_n (pc := 36) dX0_share_36 rfl 2 rfl ?_
      refine AWC_iload_n (pc := 37) dX0_share_37 rfl 3 rfl ?_
      have h_4 := hv.1
      have hv := hv.2
      refine AWC_iast (pc := 38) (b := 13) (n := 4) rfl dX0_share_38 h_4 ?_
      refine AWC_iload_n (pc := 39) dX0_share_39 rfl 0 rfl ?_
      exact AWC_iret (pc := 40) rfl rfl dX0_share_40 hv
    · have hv := hv.2 c2
      refine AWC_bipush (pc := 22) (v := (-3)) dX0_share_22 (by decide) ?_
      exact AWC_iret (pc := 24) rfl rfl dX0_share_24 hv
  · have hv := hv.2 c1
    refine AWC_bipush (pc := 7) (v := (-2)) dX0_share_7 (by decide) ?_
    exact AWC_iret (pc := 9) rfl rfl dX0_share_9 hv
theorem mcX0_share {G : Gl} {ad : Nat → Nat} (cn : Cn) (g : Tg) (f : Tf) (gt : Tg) (l : Int32) (v : Int32) (h1 : Rel cn g f gt) : MCC G ad cn MX0_share [.ref (ad 0), .int l, .int v] g (fun v0 g1 => ∃ r, v0 = some (.int r) ∧ r = rShare gt l v ∧ Rel cn g1 f (gShare gt l v)) := by
  refine MCC.of ⟨rfl, rfl⟩ (by decide) (Nat.le_of_ble_eq_true rfl) rfl (fun h0 => vcX0_share_0 g f gt l v  ?_)
  refine ⟨fun c => ⟨fun c2 => ?_, fun c2 => ⟨_, rfl, by simp [rShare, c, c2], by simpa [gShare, c, c2] using h1⟩⟩, fun c => ⟨_, rfl, by simp [rShare, c], by simpa [gShare, c] using h1⟩⟩
  have hin : vp_in l 4 := inB_in (b := 3) rfl (by decide) (by decide) c
  refine ⟨hin, hin, _, rfl, ?_, ?_⟩
  · simp only [rShare, c, c2, if_true]
    exact h1.2.2.2.2.2.2.2.1 _ (vp_lt hin)
  · simp only [gShare, c, c2, Bool.and_self, if_true]
    exact h1.share _ v
abbrev MX0_account : Mi := (yX0_account, cX0_account, 2, some .int, { frames := 1, cells := 0, slots := 0, locals := 25 })
theorem nmX0_account : Nm yX0_account 1 := ⟨by decide +kernel, by decide +kernel, by decide +kernel⟩
theorem vcX0_account_0 {G : Gl} {ad : Nat → Nat} {cn : Cn} {h0 : Hp} {Q : Option Value → Tg → Prop} (g : Tg) (f : Tf) (gt : Tg) (w : Int32)  (hv : (((inB w 0 (8 - 1)) = false → Q (some (.int (-3))) g) ∧ ((inB w 0 (8 - 1)) = true → (vp_in w 8) ∧ Q (some (.int (g 14 w.toNatClampNeg))) g))) :
    AWC G ad cn h0 MX0_account Q g 0 [(0, .ref (ad 0)), (1, .int w)] [] := by
  refine AWC_iload_n (pc := 0) dX0_account_0 rfl 1 rfl ?_
  refine AWC_i2l (pc := 1) dX0_account_1 ?_
  refine AWC_lconst (pc := 2) (v := 0) dX0_account_2 (by decide) ?_
  refine AWC_aload_n (pc := 3) dX0_account_3 rfl 0 rfl ?_
  refine AWC_getR (pc := 4) (0) 24 (14) rfl rfl clX0 (by decide) rfl (FL.o q293) dX0_account_4 ?_
  refine AWC_alen (pc := 7) (b := 14) (t := 0) (n := 8) (v := 8) rfl (by decide) (by decide) dX0_account_7 ?_
  refine AWC_iconst (pc := 8) (v := 1) dX0_account_8 (by decide) ?_
  refine AWC_isub (pc := 9) dX0_account_9 ?_
  refine AWC_i2l (pc := 10) dX0_account_10 ?_
  refine AWC_callS (M' := MX0_isIn) (pc := 11) [.long (Int32.toInt64 w), .long 0, .long (Int32.toInt64 (8 - 1))] [] nmX0_isIn ⟨rfl, rfl⟩ (ML.o q354) q355 q73 q356 dX0_account_11 rfl rfl (Nat.le_of_ble_eq_true rfl) ⟨Nat.le_of_ble_eq_true rfl, Nat.le_of_ble_eq_true rfl⟩ (mcX0_isInI cn g w 0 (8 - 1) (Int32.toInt64 w) 0 (Int32.toInt64 (8 - 1)) rfl rfl rfl) ?_
  rintro _ _ ⟨rfl, rfl⟩
  refine AWC_ifb_eq (pc := 14) (tgt := 26) dX0_account_14 (by decide) (fun c1 => ?_) (fun c1 => ?_)
  · have hv := hv.1 c1
    refine AWC_bipush (pc := 26) (v := (-3)) dX0_account_26 (by decide) ?_
    exact AWC_iret (pc := 28) rfl rfl dX0_account_28 hv
  · have hv := hv.2 c1
    refine AWC_aload_n (pc := 17) dX0_account_17 rfl 0 rfl ?_
    refine AWC_getR (pc := 18) (0) 24 (14) rfl rfl clX0 (by decide) rfl (FL.o q293) dX0_account_18 ?_
    refine AWC_iload_n (pc := 21) dX0_account_21 rfl 1 rfl ?_
    have h_2 := hv.1
    have hv := hv.2
    refine AWC_iald (pc := 22) (b := 14) (n := 8) rfl dX0_account_22 h_2 ?_
    refine AWC_goto (pc := 23) (tgt := 28) dX0_account_23 (by decide) ?_
    exact AWC_iret (pc := 28) rfl rfl dX0_account_28 hv
theorem mcX0_account {G : Gl} {ad : Nat → Nat} (cn : Cn) (g : Tg) (f : Tf) (gt : Tg) (w : Int32) (h1 : Rel cn g f gt) : MCC G ad cn MX0_account [.ref (ad 0), .int w] g (fun v0 g1 => v0 = some (.int (rAccount gt w)) ∧ g = g1) := by
  refine MCC.of ⟨rfl, rfl⟩ (by decide) (Nat.le_of_ble_eq_true rfl) rfl (fun h0 => vcX0_account_0 g f gt w  ?_)
  refine ⟨fun c => ?_, fun c => ?_⟩
  · rw [show (8 : Int32) - 1 = 7 from rfl] at c
    exact ⟨by simp [rAccount, c], rfl⟩
  · rw [show (8 : Int32) - 1 = 7 from rfl] at c
    have hin : vp_in w 8 := inB_in (b := 7) rfl (by decide) (by decide) c
    exact ⟨hin, by simp only [rAccount, c, if_true]; rw [h1.2.2.2.2.2.2.2.2 _ (vp_lt hin)], rfl⟩
abbrev MX0_count : Mi := (yX0_count, cX0_count, 2, some .int, { frames := 0, cells := 0, slots := 0, locals := 0 })
theorem nmX0_count : Nm yX0_count 1 := ⟨by decide +kernel, by decide +kernel, by decide +kernel⟩
theorem vcX0_count_0 {G : Gl} {ad : Nat → Nat} {cn : Cn} {h0 : Hp} {Q : Option Value → Tg → Prop} (g : Tg) (f : Tf) (gt : Tg) (w : Int32)  (hv : ((w = 0 → Q (some (.int (g 0 0))) g) ∧ (w = 1 → Q (some (.int (g 0 1))) g) ∧ (w = 2 → Q (some (.int (g 0 8))) g) ∧ (w = 3 → Q (some (.int (g 0 10))) g) ∧ (w = 4 → Q (some (.int (g 0 6))) g) ∧ (w = 5 → Q (some (.int (g 0 12))) g) ∧ (w = 6 → Q (some (.int (g 0 25))) g) ∧ (¬ w = 0 → ¬ w = 1 → ¬ w = 2 → ¬ w = 3 → ¬ w = 4 → ¬ w = 5 → ¬ w = 6 → Q (some (.int (-3))) g))) :
    AWC G ad cn h0 MX0_count Q g 0 [(0, .ref (ad 0)), (1, .int w)] [] := by
  refine AWC_iload_n (pc := 0) dX0_count_0 rfl 1 rfl ?_
  by_cases c1_0 : w = 0
  · have hv1 := hv.1 c1_0
    refine AWC_tableIn (pc := 1) (tgt := 44) dX0_count_1 (by rw [c1_0]; decide) (by rw [c1_0]; decide) (off := 43) (by rw [c1_0]; decide) (by decide) ?_
    refine AWC_aload_n (pc := 44) dX0_count_44 rfl 0 rfl ?_
    refine AWC_getI (pc := 45) (0) 0 rfl clX0 (by decide) rfl (FL.o q251) dX0_count_45 ?_
    exact AWC_iret (pc := 48) rfl rfl dX0_count_48 hv1
  by_cases c1_1 : w = 1
  · have hv1 := hv.2.1 c1_1
    refine AWC_tableIn (pc := 1) (tgt := 49) dX0_count_1 (by rw [c1_1]; decide) (by rw [c1_1]; decide) (off := 48) (by rw [c1_1]; decide) (by decide) ?_
    refine AWC_aload_n (pc := 49) dX0_count_49 rfl 0 rfl ?_
    refine AWC_getI (pc := 50) (0) 1 rfl clX0 (by decide) rfl (FL.o q256) dX0_count_50 ?_
    exact AWC_iret (pc := 53) rfl rfl dX0_count_53 hv1
  by_cases c1_2 : w = 2
  · have hv1 := hv.2.2.1 c1_2
    refine AWC_tableIn (pc := 1) (tgt := 54) dX0_count_1 (by rw [c1_2]; decide) (by rw [c1_2]; decide) (off := 53) (by rw [c1_2]; decide) (by decide) ?_
    refine AWC_aload_n (pc := 54) dX0_count_54 rfl 0 rfl ?_
    refine AWC_getI (pc := 55) (0) 8 rfl clX0 (by decide) rfl (FL.o q268) dX0_count_55 ?_
    exact AWC_iret (pc := 58) rfl rfl dX0_count_58 hv1
  by_cases c1_3 : w = 3
  · have hv1 := hv.2.2.2.1 c1_3
    refine AWC_tableIn (pc := 1) (tgt := 59) dX0_count_1 (by rw [c1_3]; decide) (by rw [c1_3]; decide) (off := 58) (by rw [c1_3]; decide) (by decide) ?_
    refine AWC_aload_n (pc := 59) dX0_count_59 rfl 0 rfl ?_
    refine AWC_getI (pc := 60) (0) 10 rfl clX0 (by decide) rfl (FL.o q275) dX0_count_60 ?_
    exact AWC_iret (pc := 63) rfl rfl dX0_count_63 hv1
  by_cases c1_4 : w = 4
  · have hv1 := hv.2.2.2.2.1 c1_4
    refine AWC_tableIn (pc := 1) (tgt := 64) dX0_count_1 (by rw [c1_4]; decide) (by rw [c1_4]; decide) (off := 63) (by rw [c1_4]; decide) (by decide) ?_
    refine AWC_aload_n (pc := 64) dX0_count_64 rfl 0 rfl ?_
    refine AWC_getI (pc := 65) (0) 6 rfl clX0 (by decide) rfl (FL.o q265) dX0_count_65 ?_
    exact AWC_iret (pc := 68) rfl rfl dX0_count_68 hv1
  by_cases c1_5 : w = 5
  · have hv1 := hv.2.2.2.2.2.1 c1_5
    refine AWC_tableIn (pc := 1) (tgt := 69) dX0_count_1 (by rw [c1_5]; decide) (by rw [c1_5]; decide) (off := 68) (by rw [c1_5]; decide) (by decide) ?_
    refine AWC_aload_n (pc := 69) dX0_count_69 rfl 0 rfl ?_
    refine AWC_getI (pc := 70) (0) 12 rfl clX0 (by decide) rfl (FL.o q279) dX0_count_70 ?_
    exact AWC_iret (pc := 73) rfl rfl dX0_count_73 hv1
  by_cases c1_6 : w = 6
  · have hv1 := hv.2.2.2.2.2.2.1 c1_6
    refine AWC_tableIn (pc := 1) (tgt := 74) dX0_count_1 (by rw [c1_6]; decide) (by rw [c1_6]; decide) (off := 73) (by rw [c1_6]; decide) (by decide) ?_
    refine AWC_aload_n (pc := 74) dX0_count_74 rfl 0 rfl ?_
    refine AWC_getI (pc := 75) (0) 25 rfl clX0 (by decide) rfl (FL.o q294) dX0_count_75 ?_
    exact AWC_iret (pc := 78) rfl rfl dX0_count_78 hv1
  have hv1 := hv.2.2.2.2.2.2.2 c1_0 c1_1 c1_2 c1_3 c1_4 c1_5 c1_6
  have hdf : AWC G ad cn h0 MX0_count Q g 79 [(0, .ref (ad 0)), (1, .int w)] [] := by
    refine AWC_bipush (pc := 79) (v := (-3)) dX0_count_79 (by decide) ?_
    exact AWC_iret (pc := 81) rfl rfl dX0_count_81 hv1
  have c1_0 := lv_neT c1_0 (a := 0) (by decide)
  have c1_1 := lv_neT c1_1 (a := 1) (by decide)
  have c1_2 := lv_neT c1_2 (a := 2) (by decide)
  have c1_3 := lv_neT c1_3 (a := 3) (by decide)
  have c1_4 := lv_neT c1_4 (a := 4) (by decide)
  have c1_5 := lv_neT c1_5 (a := 5) (by decide)
  have c1_6 := lv_neT c1_6 (a := 6) (by decide)
  exact AWC_tableOut (pc := 1) (tgt := 79) dX0_count_1 (by omega) (by decide) hdf
theorem mcX0_count {G : Gl} {ad : Nat → Nat} (cn : Cn) (g : Tg) (f : Tf) (gt : Tg) (w : Int32) (h1 : Rel cn g f gt) : MCC G ad cn MX0_count [.ref (ad 0), .int w] g (fun v0 g1 => v0 = some (.int (rCount f w)) ∧ g = g1) := by
  refine MCC.of ⟨rfl, rfl⟩ (by decide) (Nat.le_of_ble_eq_true rfl) rfl (fun h0 => vcX0_count_0 g f gt w  ?_)
  obtain ⟨⟨a1, a2, a3, a4, a5, a6, a7, a8, a9, a10, a11⟩, -⟩ := h1
  rw [a1, a2, a7, a8, a6, a9, a11]
  refine ⟨fun c => by subst c; exact ⟨rfl, rfl⟩, fun c => by subst c; exact ⟨rfl, rfl⟩, fun c => by subst c; exact ⟨rfl, rfl⟩, fun c => by subst c; exact ⟨rfl, rfl⟩, fun c => by subst c; exact ⟨rfl, rfl⟩, fun c => by subst c; exact ⟨rfl, rfl⟩, fun c => by subst c; exact ⟨rfl, rfl⟩, fun c0 c1 c2 c3 c4 c5 c6 => by simp [rCount, c0, c1, c2, c3, c4, c5, c6]⟩
abbrev MX0_debtOf : Mi := (yX0_debtOf, cX0_debtOf, 5, some .int, { frames := 0, cells := 0, slots := 0, locals := 0 })
theorem nmX0_debtOf : Nm yX0_debtOf 1 := ⟨by decide +kernel, by decide +kernel, by decide +kernel⟩
theorem vcX0_debtOf_0 {G : Gl} {ad : Nat → Nat} {cn : Cn} {h0 : Hp} {Q : Option Value → Tg → Prop} (g : Tg) (f : Tf) (gt : Tg) (l : Int32)  (hv : AWC G ad cn h0 MX0_debtOf Q g 7 [(0, .ref (ad 0)), (1, .int l), (2, .int 0), (3, .int 0), (4, .int 0)] []) :
    AWC G ad cn h0 MX0_debtOf Q g 0 [(0, .ref (ad 0)), (1, .int l)] [] := by
  refine AWC_iconst (pc := 0) (v := 0) dX0_debtOf_0 (by decide) ?_
  refine AWC_istore_n (pc := 1) (lv' := [(2, .int 0), (0, .ref (ad 0)), (1, .int l)]) dX0_debtOf_1 rfl (by decide) rfl ?_
  refine AWC_iconst (pc := 2) (v := 0) dX0_debtOf_2 (by decide) ?_
  refine AWC_istore_n (pc := 3) (lv' := [(3, .int 0), (2, .int 0), (0, .ref (ad 0)), (1, .int l)]) dX0_debtOf_3 rfl (by decide) rfl ?_
  refine AWC_iconst (pc := 4) (v := 0) dX0_debtOf_4 (by decide) ?_
  refine AWC_istore (pc := 5) (lv' := [(4, .int 0), (3, .int 0), (2, .int 0), (0, .ref (ad 0)), (1, .int l)]) dX0_debtOf_5 (by decide) rfl ?_
  refine AWC_lv (lv' := [(0, .ref (ad 0)), (1, .int l), (2, .int 0), (3, .int 0), (4, .int 0)]) [3, 4, 2, 1, 0] rfl ?_
  exact hv
theorem vcX0_debtOf_7 {G : Gl} {ad : Nat → Nat} {cn : Cn} {h0 : Hp} {Q : Option Value → Tg → Prop} (g : Tg) (f : Tf) (gt : Tg) (l : Int32) (u : Int32) (a : Int32) (k : Int32)  (hv : ((4 ≤ k → (vp_in l 4) ∧ (vp_in l 8) ∧ Q (some (.int (((g 13 l.toNatClampNeg) * u) - (a * (g 14 l.toNatClampNeg))))) g) ∧ (¬ 4 ≤ k → (vp_in k 8) ∧ (vp_in k 4) ∧ AWC G ad cn h0 MX0_debtOf Q g 7 [(0, .ref (ad 0)), (1, .int l), (2, .int (u + (g 14 k.toNatClampNeg))), (3, .int (a + (g 13 k.toNatClampNeg))), (4, .int (k + 1))] []))) :
    AWC G ad cn h0 MX0_debtOf Q g 7 [(0, .ref (ad 0)), (1, .int l), (2, .int u), (3, .int a), (4, .int k)] [] := by
  refine AWC_iload (pc := 7) dX0_debtOf_7 4 rfl ?_
  refine AWC_iconst (pc := 9) (v := 4) dX0_debtOf_9 (by decide) ?_
  refine AWC_icmp_ge (pc := 10) (tgt := 39) dX0_debtOf_10 (by decide) (fun c1 => ?_) (fun c1 => ?_)
  · have hv := hv.1 c1
    refine AWC_aload_n (pc := 39) dX0_debtOf_39 rfl 0 rfl ?_
    refine AWC_getR (pc := 40) (0) 23 (13) rfl rfl clX0 (by decide) rfl (FL.o q292) dX0_debtOf_40 ?_
    refine AWC_iload_n (pc := 43) dX0_debtOf_43 rfl 1 rfl ?_
    have h_2 := hv.1
    have hv := hv.2
    refine AWC_iald (pc := 44) (b := 13) (n := 4) rfl dX0_debtOf_44 h_2 ?_
    refine AWC_iload_n (pc := 45) dX0_debtOf_45 rfl 2 rfl ?_
    refine AWC_imul (pc := 46) dX0_debtOf_46 ?_
    refine AWC_iload_n (pc := 47) dX0_debtOf_47 rfl 3 rfl ?_
    refine AWC_aload_n (pc := 48) dX0_debtOf_48 rfl 0 rfl ?_
    refine AWC_getR (pc := 49) (0) 24 (14) rfl rfl clX0 (by decide) rfl (FL.o q293) dX0_debtOf_49 ?_
    refine AWC_iload_n (pc := 52) dX0_debtOf_52 rfl 1 rfl ?_
    have h_3 := hv.1
    have hv := hv.2
    refine AWC_iald (pc := 53) (b := 14) (n := 8) rfl dX0_debtOf_53 h_3 ?_
    refine AWC_imul (pc := 54) dX0_debtOf_54 ?_
    refine AWC_isub (pc := 55) dX0_debtOf_55 ?_
    exact AWC_iret (pc := 56) rfl rfl dX0_debtOf_56 hv
  · have hv := hv.2 c1
    refine AWC_iload_n (pc := 13) dX0_debtOf_13 rfl 2 rfl ?_
    refine AWC_aload_n (pc := 14) dX0_debtOf_14 rfl 0 rfl ?_
    refine AWC_getR (pc := 15) (0) 24 (14) rfl rfl clX0 (by decide) rfl (FL.o q293) dX0_debtOf_15 ?_
    refine AWC_iload (pc := 18) dX0_debtOf_18 4 rfl ?_
    have h_4 := hv.1
    have hv := hv.2
    refine AWC_iald (pc := 20) (b := 14) (n := 8) rfl dX0_debtOf_20 h_4 ?_
    refine AWC_iadd (pc := 21) dX0_debtOf_21 ?_
    refine AWC_istore_n (pc := 22) (lv' := [(2, .int (u + (g 14 k.toNatClampNeg))), (0, .ref (ad 0)), (1, .int l), (3, .int a), (4, .int k)]) dX0_debtOf_22 rfl (by decide) rfl ?_
    refine AWC_iload_n (pc := 23) dX0_debtOf_23 rfl 3 rfl ?_
    refine AWC_aload_n (pc := 24) dX0_debtOf_24 rfl 1 rfl ?_
    refine AWC_getR (pc := 25) (0) 23 (13) rfl rfl clX0 (by decide) rfl (FL.o q292) dX0_debtOf_25 ?_
    refine AWC_iload (pc := 28) dX0_debtOf_28 4 rfl ?_
    have h_5 := hv.1
    have hv := hv.2
    refine AWC_iald (pc := 30) (b := 13) (n := 4) rfl dX0_debtOf_30 h_5 ?_
    refine AWC_iadd (pc := 31) dX0_debtOf_31 ?_
    refine AWC_istore_n (pc := 32) (lv' := [(3, .int (a + (g 13 k.toNatClampNeg))), (2, .int (u + (g 14 k.toNatClampNeg))), (0, .ref (ad 0)), (1, .int l), (4, .int k)]) dX0_debtOf_32 rfl (by decide) rfl ?_
    refine AWC_iinc (pc := 33) (v := k + 1) (lv' := [(4, .int (k + 1)), (3, .int (a + (g 13 k.toNatClampNeg))), (2, .int (u + (g 14 k.toNatClampNeg))), (0, .ref (ad 0)), (1, .int l)]) dX0_debtOf_33 4 rfl rfl (by decide) rfl ?_
    refine AWC_goto (pc := 36) (tgt := 7) dX0_debtOf_36 (by decide) ?_
    refine AWC_lv (lv' := [(0, .ref (ad 0)), (1, .int l), (2, .int (u + (g 14 k.toNatClampNeg))), (3, .int (a + (g 13 k.toNatClampNeg))), (4, .int (k + 1))]) [3, 4, 2, 1, 0] rfl ?_
    exact hv
theorem mcX0_debtOf {G : Gl} {ad : Nat → Nat} (cn : Cn) (g : Tg) (f : Tf) (gt : Tg) (l : Int32) (h1 : Rel cn g f gt) (h2 : vp_in l 4) : MCC G ad cn MX0_debtOf [.ref (ad 0), .int l] g (fun v0 g1 => v0 = some (.int (debtS gt l)) ∧ g = g1) := by
  refine MCC.of ⟨rfl, rfl⟩ (by decide) (Nat.le_of_ble_eq_true rfl) rfl (fun h0 => vcX0_debtOf_0 g f gt l  ?_)
  have h8 : vp_in l 8 := by
    obtain ⟨j, hj, rfl⟩ := vp_in_of h2 (by decide)
    exact vp_in_nI (by omega) (by decide)
  refine vcX0_debtOf_7 g f gt _ _ _ _ (br_f (by decide) ⟨pk_in 0 8 (by decide), pk_in 0 4 (by decide), ?_⟩)
  refine vcX0_debtOf_7 g f gt _ _ _ _ (br_f (by decide) ⟨pk_in 1 8 (by decide), pk_in 1 4 (by decide), ?_⟩)
  refine vcX0_debtOf_7 g f gt _ _ _ _ (br_f (by decide) ⟨pk_in 2 8 (by decide), pk_in 2 4 (by decide), ?_⟩)
  refine vcX0_debtOf_7 g f gt _ _ _ _ (br_f (by decide) ⟨pk_in 3 8 (by decide), pk_in 3 4 (by decide), ?_⟩)
  refine vcX0_debtOf_7 g f gt _ _ _ _ (br_t (by decide) ⟨h2, h8, ?_, rfl⟩)
  have q := h1.2.2.2.2.2.2.2.1
  have r := h1.2.2.2.2.2.2.2.2
  unfold debtS
  rw [← q _ (vp_lt h2), ← r _ (vp_lt h8), ← q 0 (by decide), ← q 1 (by decide), ← q 2 (by decide), ← q 3 (by decide), ← r 0 (by decide), ← r 1 (by decide), ← r 2 (by decide), ← r 3 (by decide)]
  rfl
abbrev MX0_debt : Mi := (yX0_debt, cX0_debt, 2, some .int, { frames := 2, cells := 0, slots := 0, locals := 45 })
theorem nmX0_debt : Nm yX0_debt 1 := ⟨by decide +kernel, by decide +kernel, by decide +kernel⟩
theorem vcX0_debt_0 {G : Gl} {ad : Nat → Nat} {cn : Cn} {h0 : Hp} {Q : Option Value → Tg → Prop} (g : Tg) (f : Tf) (gt : Tg) (l : Int32)  (hv : (((inB l 0 3) = false → Q (some (.int (-2147483648))) g) ∧ ((inB l 0 3) = true → (Rel cn g f gt) ∧ (vp_in l 4) ∧ Q (some (.int (debtS gt l))) g))) :
    AWC G ad cn h0 MX0_debt Q g 0 [(0, .ref (ad 0)), (1, .int l)] [] := by
  refine AWC_iload_n (pc := 0) dX0_debt_0 rfl 1 rfl ?_
  refine AWC_callS (M' := MX0_isLand) (pc := 1) [.int l] [] nmX0_isLand ⟨rfl, rfl⟩ (ML.o q1008) q1009 q73 q1010 dX0_debt_1 rfl rfl (Nat.le_of_ble_eq_true rfl) ⟨Nat.le_of_ble_eq_true rfl, Nat.le_of_ble_eq_true rfl⟩ (mcX0_isLand cn g  l ) ?_
  rintro _ _ ⟨rfl, rfl⟩
  refine AWC_ifb_eq (pc := 4) (tgt := 15) dX0_debt_4 (by decide) (fun c1 => ?_) (fun c1 => ?_)
  · have hv := hv.1 c1
    refine AWC_ldcw (pc := 15) q1028 dX0_debt_15 ?_
    exact AWC_iret (pc := 18) rfl rfl dX0_debt_18 hv
  · have hv := hv.2 c1
    refine AWC_aload_n (pc := 7) dX0_debt_7 rfl 0 rfl ?_
    refine AWC_iload_n (pc := 8) dX0_debt_8 rfl 1 rfl ?_
    have h_2 := hv.1
    have hv := hv.2
    have h_3 := hv.1
    have hv := hv.2
    refine AWC_callV (M' := MX0_debtOf) (pc := 9) (a := 0) [.int l] [] clX0 rfl rfl nmX0_debtOf ⟨rfl, rfl⟩ (ML.o q1024) q1026 qs37 q73 q1027 dX0_debt_9 rfl rfl (Nat.le_of_ble_eq_true rfl) ⟨Nat.le_of_ble_eq_true rfl, Nat.le_of_ble_eq_true rfl⟩ (mcX0_debtOf cn g f gt l h_2 h_3) ?_
    rintro _ _ ⟨rfl, rfl⟩
    refine AWC_goto (pc := 12) (tgt := 18) dX0_debt_12 (by decide) ?_
    exact AWC_iret (pc := 18) rfl rfl dX0_debt_18 hv
theorem mcX0_debt {G : Gl} {ad : Nat → Nat} (cn : Cn) (g : Tg) (f : Tf) (gt : Tg) (l : Int32) (h1 : Rel cn g f gt) : MCC G ad cn MX0_debt [.ref (ad 0), .int l] g (fun v0 g1 => v0 = some (.int (rDebt gt l)) ∧ g = g1) := by
  refine MCC.of ⟨rfl, rfl⟩ (by decide) (Nat.le_of_ble_eq_true rfl) rfl (fun h0 => vcX0_debt_0 g f gt l  ?_)
  exact ⟨fun c => by simp [rDebt, c], fun c => ⟨h1, inB_in (b := 3) rfl (by decide) (by decide) c, by simp [rDebt, c]⟩⟩
