/-! ===== write; the reference's placements and placement (printed by h22.py) ===== -/
theorem wbit (y : Int64) : (Int64.toInt32 (y &&& 255)).toInt8 = (Int64.toInt32 y).toInt8 := by
  apply Int8.toBitVec_inj.mp
  show ((y.toBitVec &&& (255 : Int64).toBitVec).signExtend 32).signExtend 8 = (y.toBitVec.signExtend 32).signExtend 8
  apply BitVec.eq_of_getLsbD_eq
  intro i hi
  have h255 : ∀ j, j < 8 → ((255 : Int64).toBitVec).getLsbD j = true := by decide
  simp only [BitVec.getLsbD_signExtend, BitVec.getLsbD_and]
  have : i < 32 := by omega
  simp [hi, this, show i < 64 by omega]
  intro _
  rcases (show i = 0 ∨ i = 1 ∨ i = 2 ∨ i = 3 ∨ i = 4 ∨ i = 5 ∨ i = 6 ∨ i = 7 by omega) with e | e | e | e | e | e | e | e <;> subst e <;> first | (simp; done) | (clear h255 hi this; decide +revert)
def byC (x : Int64) (i : Nat) : Int32 := vp_nar .byte (Int8.toInt32 (Int32.toInt8 (Int64.toInt32 (x >>> ((8 * nI i).toInt64 &&& 63)))))
theorem byC_of (x : Int64) (i : Nat) : byC x i = (byteOf x i).toInt8.toInt32 := by
  unfold byC byteOf
  rw [wbit, pk_vb]
def wrCb (c : Tg) (b : Nat) (x : Int64) (i : Nat) : Tg := fun k a => if k = 12 ∧ b ≤ a ∧ a < b + i then byC x (a - b) else c k a
def wrC (c : Tg) (b : Nat) (x : Int64) (i : Nat) : Tg := up2 (wrCb c b x i) 0 12 (nI (b + i))
theorem wrC_0 (c : Tg) (b : Nat) (x : Int64) (h : c 0 12 = nI b) : wrC c b x 0 = c := by
  funext k a
  unfold wrC up2 wrCb
  by_cases e : k = 0 ∧ a = 12
  · rw [if_pos e, e.1, e.2, h]; rfl
  · rw [if_neg e, if_neg (by omega)]
theorem wrC_12 (c : Tg) (b : Nat) (x : Int64) (i : Nat) : wrC c b x i 0 12 = nI (b + i) := up2_s _ _ _ _
theorem wrC_s (c : Tg) (b : Nat) (x : Int64) (i : Nat) : up2 (up2 (wrC c b x i) 12 (b + i) (byC x i)) 0 12 (nI (b + i + 1)) = wrC c b x (i + 1) := by
  funext k a
  unfold wrC up2 wrCb
  by_cases e : k = 0 ∧ a = 12
  · rw [if_pos e, if_pos e]; rfl
  · rw [if_neg e, if_neg e, if_neg e]
    by_cases h12 : k = 12
    · by_cases h2 : a = b + i
      · rw [if_pos ⟨h12, h2⟩, if_pos (by omega), show a - b = i by omega]
      · rw [if_neg (fun w => h2 w.2)]
        by_cases h3 : b ≤ a ∧ a < b + i
        · rw [if_pos ⟨h12, h3⟩, if_pos (by omega)]
        · rw [if_neg (fun w => h3 w.2), if_neg (by omega)]
    · rw [if_neg (fun w => h12 w.1), if_neg (fun w => h12 w.1), if_neg (fun w => h12 w.1)]
theorem Rel.wr {cn : Cn} {c : Tg} {f : Tf} {g : Tg} (h : Rel cn c f g) {b m : Nat} (hb : f 12 = nI b) (hm : b + m ≤ 160) (x : Int64) : Rel cn (wrC c b x m) (upd f 12 (nI (b + m))) (wrT g b x m) := by
  refine h.text (nI (b + m)) (fun k j h1 h2 => ?_) (wrC_12 ..) (fun k j hk => by unfold wrT; rw [if_neg (fun w => hk w.1)]) (fun i hi => ?_)
  · unfold wrC
    rw [up2_o _ _ _ _ h2]
    unfold wrCb
    rw [if_neg (fun w => h1 w.1)]
  · rw [nc (b + m)] at hi
    unfold wrC wrT
    rw [up2_n _ _ _ _ (by decide)]
    unfold wrCb
    by_cases h3 : b ≤ i ∧ i < b + m
    · rw [if_pos ⟨rfl, h3⟩, if_pos ⟨rfl, h3⟩, byC_of]
    · rw [if_neg (fun w => h3 w.2), if_neg (fun w => h3 w.2)]
      exact h.2.2.2.2.2.2.1 i (by rw [hb, nc b]; omega)
abbrev MX0_write : Mi := (yX0_write, cX0_write, 5, some .int, { frames := 1, cells := 0, slots := 0, locals := 25 })
theorem nmX0_write : Nm yX0_write 2 := ⟨by decide +kernel, by decide +kernel, by decide +kernel⟩
theorem vcX0_write_0 {G : Gl} {ad : Nat → Nat} {cn : Cn} {h0 : Hp} {Q : Option Value → Tg → Prop} (g : Tg) (f : Tf) (gt : Tg) (x : Int64) (n : Int32)  (hv : (((inB n 1 8) = true → ((((g 0 12) + n) ≤ 160 → AWC G ad cn h0 MX0_write Q g 33 [(0, .ref (ad 0)), (1, .long x), (3, .int n), (4, .int 0)] []) ∧ (¬ ((g 0 12) + n) ≤ 160 → Q (some (.int (-5))) g))) ∧ ((inB n 1 8) = false → Q (some (.int (-3))) g))) :
    AWC G ad cn h0 MX0_write Q g 0 [(0, .ref (ad 0)), (1, .long x), (3, .int n)] [] := by
  refine AWC_iload_n (pc := 0) dX0_write_0 rfl 2 rfl ?_
  refine AWC_i2l (pc := 1) dX0_write_1 ?_
  refine AWC_lconst (pc := 2) (v := 1) dX0_write_2 (by decide) ?_
  refine AWC_ldc2 (pc := 3) q363 dX0_write_3 ?_
  refine AWC_callS (M' := MX0_isIn) (pc := 6) [.long (Int32.toInt64 n), .long 1, .long 8] [] nmX0_isIn ⟨rfl, rfl⟩ (ML.o q354) q355 q73 q356 dX0_write_6 rfl rfl (Nat.le_of_ble_eq_true rfl) ⟨Nat.le_of_ble_eq_true rfl, Nat.le_of_ble_eq_true rfl⟩ (mcX0_isInI cn g n 1 8 (Int32.toInt64 n) 1 8 rfl rfl rfl) ?_
  rintro _ _ ⟨rfl, rfl⟩
  refine AWC_ifb_ne (pc := 9) (tgt := 15) dX0_write_9 (by decide) (fun c1 => ?_) (fun c1 => ?_)
  · have hv := hv.1 c1
    refine AWC_aload_n (pc := 15) dX0_write_15 rfl 0 rfl ?_
    refine AWC_getI (pc := 16) (0) 12 rfl clX0 (by decide) rfl (FL.o q279) dX0_write_16 ?_
    refine AWC_iload_n (pc := 19) dX0_write_19 rfl 2 rfl ?_
    refine AWC_iadd (pc := 20) dX0_write_20 ?_
    refine AWC_sipush (pc := 21) (v := 160) dX0_write_21 (by decide) ?_
    refine AWC_icmp_le (pc := 24) (tgt := 30) dX0_write_24 (by decide) (fun c2 => ?_) (fun c2 => ?_)
    · have hv := hv.1 c2
      refine AWC_iconst (pc := 30) (v := 0) dX0_write_30 (by decide) ?_
      refine AWC_istore (pc := 31) (lv' := [(4, .int 0), (0, .ref (ad 0)), (1, .long x), (3, .int n)]) dX0_write_31 (by decide) rfl ?_
      refine AWC_lv (lv' := [(0, .ref (ad 0)), (1, .long x), (3, .int n), (4, .int 0)]) [1, 2, 3, 0] rfl ?_
      exact hv
    · have hv := hv.2 c2
      refine AWC_bipush (pc := 27) (v := (-5)) dX0_write_27 (by decide) ?_
      exact AWC_iret (pc := 29) rfl rfl dX0_write_29 hv
  · have hv := hv.2 c1
    refine AWC_bipush (pc := 12) (v := (-3)) dX0_write_12 (by decide) ?_
    exact AWC_iret (pc := 14) rfl rfl dX0_write_14 hv
theorem vcX0_write_33 {G : Gl} {ad : Nat → Nat} {cn : Cn} {h0 : Hp} {Q : Option Value → Tg → Prop} (g : Tg) (f : Tf) (gt : Tg) (x : Int64) (n : Int32) (i : Int32)  (hv : ((n ≤ i → Q (some (.int (g 0 12))) g) ∧ (¬ n ≤ i → (vp_in (g 0 12) 160) ∧ AWC G ad cn h0 MX0_write Q (up2 (up2 g 12 (g 0 12).toNatClampNeg (vp_nar .byte (Int8.toInt32 (Int32.toInt8 (Int64.toInt32 (x >>> ((8 * i).toInt64 &&& 63))))))) 0 12 (((up2 g 12 (g 0 12).toNatClampNeg (vp_nar .byte (Int8.toInt32 (Int32.toInt8 (Int64.toInt32 (x >>> ((8 * i).toInt64 &&& 63))))))) 0 12) + 1)) 33 [(0, .ref (ad 0)), (1, .long x), (3, .int n), (4, .int (i + 1))] []))) :
    AWC G ad cn h0 MX0_write Q g 33 [(0, .ref (ad 0)), (1, .long x), (3, .int n), (4, .int i)] [] := by
  refine AWC_iload (pc := 33) dX0_write_33 3 rfl ?_
  refine AWC_iload_n (pc := 35) dX0_write_35 rfl 2 rfl ?_
  refine AWC_icmp_ge (pc := 36) (tgt := 73) dX0_write_36 (by decide) (fun c1 => ?_) (fun c1 => ?_)
  · have hv := hv.1 c1
    refine AWC_aload_n (pc := 73) dX0_write_73 rfl 0 rfl ?_
    refine AWC_getI (pc := 74) (0) 12 rfl clX0 (by decide) rfl (FL.o q279) dX0_write_74 ?_
    exact AWC_iret (pc := 77) rfl rfl dX0_write_77 hv
  · have hv := hv.2 c1
    refine AWC_aload_n (pc := 39) dX0_write_39 rfl 0 rfl ?_
    refine AWC_getR (pc := 40) (0) 11 (12) rfl rfl clX0 (by decide) rfl (FL.o q277) dX0_write_40 ?_
    refine AWC_aload_n (pc := 43) dX0_write_43 rfl 0 rfl ?_
    refine AWC_getI (pc := 44) (0) 12 rfl clX0 (by decide) rfl (FL.o q279) dX0_write_44 ?_
    refine AWC_lload_n (pc := 47) dX0_write_47 rfl 1 rfl ?_
    refine AWC_bipush (pc := 48) (v := 8) dX0_write_48 (by decide) ?_
    refine AWC_iload (pc := 50) dX0_write_50 3 rfl ?_
    refine AWC_imul (pc := 52) dX0_write_52 ?_
    refine AWC_lshr (pc := 53) dX0_write_53 ?_
    refine AWC_l2i (pc := 54) dX0_write_54 ?_
    refine AWC_i2b (pc := 55) dX0_write_55 ?_
    have h_2 := hv.1
    have hv := hv.2
    refine AWC_bast (pc := 56) (b := 12) (n := 160) rfl dX0_write_56 h_2 ?_
    refine AWC_aload_n (pc := 57) dX0_write_57 rfl 0 rfl ?_
    refine AWC_dup (pc := 58) dX0_write_58 rfl ?_
    refine AWC_getI (pc := 59) (0) 12 rfl clX0 (by decide) rfl (FL.o q279) dX0_write_59 ?_
    refine AWC_iconst (pc := 62) (v := 1) dX0_write_62 (by decide) ?_
    refine AWC_iadd (pc := 63) dX0_write_63 ?_
    refine AWC_putI (pc := 64) (0) 12 rfl clX0 (by decide) rfl (FL.o q279) rfl dX0_write_64 ?_
    refine AWC_iinc (pc := 67) (v := i + 1) (lv' := [(4, .int (i + 1)), (0, .ref (ad 0)), (1, .long x), (3, .int n)]) dX0_write_67 3 rfl rfl (by decide) rfl ?_
    refine AWC_goto (pc := 70) (tgt := 33) dX0_write_70 (by decide) ?_
    refine AWC_lv (lv' := [(0, .ref (ad 0)), (1, .long x), (3, .int n), (4, .int (i + 1))]) [1, 2, 3, 0] rfl ?_
    exact hv
theorem mcX0_write {G : Gl} {ad : Nat → Nat} (cn : Cn) (g : Tg) (f : Tf) (gt : Tg) (x : Int64) (n : Int32) (h1 : Rel cn g f gt) (h2 : MI f gt) : MCC G ad cn MX0_write [.ref (ad 0), .long x, .int n] g (fun v0 g1 => ∃ r, v0 = some (.int r) ∧ r = rWrite f n ∧ Rel cn g1 (fWrite f n) (gWrite f gt x n)) := by
  refine MCC.of ⟨rfl, rfl⟩ (by decide) (Nat.le_of_ble_eq_true rfl) rfl (fun h0 => vcX0_write_0 g f gt x n  ?_)
  have a9 := h1.1.2.2.2.2.2.2.2.2.1
  obtain ⟨-, -, -, -, ⟨b, hb, hb160, -⟩, -⟩ := h2
  refine ⟨fun c => ⟨fun c2 => ?_, fun c2 => ?_⟩, fun c => ⟨_, rfl, by simp [rWrite, c], by simpa [fWrite, gWrite, c] using h1⟩⟩
  · rw [a9] at c2
    have c2' := c2
    obtain ⟨m, rfl, hm1, hm8⟩ := inB_n (a := 1) (b := 8) rfl rfl (by decide) (by decide) c
    have c3 : b + m ≤ 160 := by
      rw [hb, nI_add] at c2
      exact (nI_leI (b := 160) (by omega) (by decide)).mp c2
    have hcl : (f 12).toNatClampNeg = b := by rw [hb]; exact nc b
    have hg12 : g 0 12 = nI b := a9.trans hb
    have base : AWC G ad cn h0 MX0_write (fun v0 g1 => ∃ r, v0 = some (.int r) ∧ r = rWrite f (nI m) ∧ Rel cn g1 (fWrite f (nI m)) (gWrite f gt x (nI m))) (wrC g b x 0) 33 [(0, .ref (ad 0)), (1, .long x), (3, .int (nI m)), (4, .int (nI 0))] [] := by
      refine loopUp (A := fun j => AWC G ad cn h0 MX0_write (fun v0 g1 => ∃ r, v0 = some (.int r) ∧ r = rWrite f (nI m) ∧ Rel cn g1 (fWrite f (nI m)) (gWrite f gt x (nI m))) (wrC g b x j) 33 [(0, .ref (ad 0)), (1, .long x), (3, .int (nI m)), (4, .int (nI j))] []) m ?_ ?_ 0 (by omega)
      · refine vcX0_write_33 _ f gt _ _ _ (pk_le m m (fun _ => ⟨_, rfl, ?_, ?_⟩) (fun z => by omega))
        · rw [wrC_12]
          simp only [rWrite, okWr, c, c2', decide_true, if_true]
          rw [hb, nI_add]
        · have e1 : f 12 + nI m = nI (b + m) := by rw [hb, nI_add]
          have e2 : okWr f (nI m) = true := decide_eq_true c2'
          simp only [fWrite, gWrite, c, e2, if_true, hcl]
          rw [nc m, e1]
          exact h1.wr hb c3 x
      · intro j hj ih
        refine vcX0_write_33 _ f gt _ _ _ (pk_le m j (fun z => by omega) (fun _ => ?_))
        rw [wrC_12, nc (b + j)]
        refine ⟨vp_in_nI (by omega) (by decide), ?_⟩
        rw [up2_n _ _ _ _ (by decide), wrC_12, nI_1, nI_1]
        have := wrC_s g b x j
        unfold byC at this
        rw [this]
        exact ih
    rw [wrC_0 g b x hg12] at base
    exact base
  · rw [a9] at c2
    exact ⟨_, rfl, by simp [rWrite, okWr, c, c2], by simpa [fWrite, gWrite, okWr, c, c2] using h1⟩
theorem MI.PP {f : Tf} {g : Tg} (h : MI f g) {p n : Nat} (hn : f 21 = nI n) (hn5 : n ≤ 5) (hp : p < n) : PP f g p := by
  have h' := h
  obtain ⟨⟨m, hm⟩, -, ⟨t, ht, ht8, -⟩, -, -, ⟨q, hq, hq5, hpl⟩, -⟩ := h'
  have : q = n := (nI_eq (by omega) (by omega)).mp (hq.symm.trans hn)
  exact ⟨by omega, hpl p (by omega), ⟨m, hm⟩, ⟨t, ht, ht8⟩⟩
abbrev MX9_placements : Mi := (yX9_placements, cX9_placements, 2, some .int, { frames := 6, cells := 0, slots := 0, locals := 150 })
theorem nmX9_placements : Nm yX9_placements 1 := ⟨by decide +kernel, by decide +kernel, by decide +kernel⟩
theorem vcX9_placements_0 {G : Gl} {o : Nat} {ad : Nat → Nat} {h0 : Hp} {Q : Option Value → Tf → Tg → Te → Prop} (f : Tf) (g : Tg) (e : Te) (p : Int32) (hv : (((inB p 0 (f 21 - 1)) = true → (∃ P : Nat, p = nI P ∧ PP f g P) ∧ vp_in p 5 ∧ Q (some (.int ((putL f g p.toNatClampNeg (PL f g p.toNatClampNeg)) 23 p.toNatClampNeg))) f (putL f g p.toNatClampNeg (PL f g p.toNatClampNeg)) e) ∧ ((inB p 0 (f 21 - 1)) = false → Q (some (.int (-2))) f g e))) :
    AWT G o ad h0 MX9_placements Q f g e 0 [(0, .ref o), (1, .int p)] [] := by
  refine AWT_aload_n (pc := 0) dX9_placements_0 rfl 0 rfl ?_
  refine AWT_iload_n (pc := 1) dX9_placements_1 rfl 1 rfl ?_
  refine AWT_callV (M' := MX9_isPlan) (pc := 2) [.int p] [] rfl nmX9_isPlan ⟨rfl, rfl⟩ (ML.o q1286) q1288 qs47 q82 q1289 dX9_placements_2 rfl rfl (Nat.le_of_ble_eq_true rfl) ⟨Nat.le_of_ble_eq_true rfl, Nat.le_of_ble_eq_true rfl⟩ (mcX9_isPlan f g e p ) ?_
  rintro _ _ _ _ ⟨rfl, rfl, rfl, rfl⟩
  refine AWT_ifb_ne (pc := 5) (tgt := 11) dX9_placements_5 (by decide) (fun c1 => ?_) (fun c1 => ?_)
  · have hv := hv.1 c1
    refine AWT_aload_n (pc := 11) dX9_placements_11 rfl 0 rfl ?_
    refine AWT_iload_n (pc := 12) dX9_placements_12 rfl 1 rfl ?_
    have p2 := hv.1
    have hv := hv.2
    refine AWT_callV (M' := MX9_findPlacements) (pc := 13) [.int p] [] rfl nmX9_findPlacements ⟨rfl, rfl⟩ (ML.o q1306) q1308 qs49 q82 q1309 dX9_placements_13 rfl rfl (Nat.le_of_ble_eq_true rfl) ⟨Nat.le_of_ble_eq_true rfl, Nat.le_of_ble_eq_true rfl⟩ (mcX9_findPlacements f g e p p2) ?_
    rintro _ _ _ _ ⟨rfl, rfl, rfl, rfl⟩
    refine AWT_aload_n (pc := 16) dX9_placements_16 rfl 0 rfl ?_
    refine AWT_getA (pc := 17) 23 (by decide) rfl rfl (FL.o q1066) dX9_placements_17 ?_
    refine AWT_iload_n (pc := 20) dX9_placements_20 rfl 1 rfl ?_
    refine AWT_iald (pc := 21) (k := 23) (n := 5) rfl dX9_placements_21 hv.1 ?_
    have hv := hv.2
    exact AWT_iret (pc := 22) rfl rfl dX9_placements_22 hv
  · have hv := hv.2 c1
    refine AWT_bipush (pc := 8) (v := (-2)) dX9_placements_8 (by decide) ?_
    exact AWT_iret (pc := 10) rfl rfl dX9_placements_10 hv
theorem mcX9_placements {G : Gl} {o : Nat} {ad : Nat → Nat} (f : Tf) (g : Tg) (e : Te) (p : Int32) (h1 : MI f g) : MCT G o ad MX9_placements [.ref o, .int p] f g e (fun v0 f1 g1 e1 => v0 = some (.int (rPlacements f g p)) ∧ f = f1 ∧ (if inB p 0 (f 21 - 1) then putL f g p.toNatClampNeg (PL f g p.toNatClampNeg) else g) = g1 ∧ e = e1) := by
  refine MCT.of ⟨rfl, rfl⟩ (by decide) (Nat.le_of_ble_eq_true rfl) rfl (fun h0 => vcX9_placements_0 f g e p ?_)
  refine ⟨fun c => ?_, fun c => by simp [rPlacements, c]⟩
  obtain ⟨a, n, rfl, ha, hn, hn5, han, -⟩ := h1.plan c
  refine ⟨⟨a, rfl, h1.PP hn hn5 han⟩, vp_in_nI ha (by decide), ?_, rfl, ?_, rfl⟩
  · simp only [rPlacements, c, if_true, nc a]
    rw [putL_23]
  · simp only [c, if_true]
abbrev MX9_placement : Mi := (yX9_placement, cX9_placement, 3, some .int, { frames := 6, cells := 0, slots := 0, locals := 150 })
theorem nmX9_placement : Nm yX9_placement 2 := ⟨by decide +kernel, by decide +kernel, by decide +kernel⟩
theorem vcX9_placement_0 {G : Gl} {o : Nat} {ad : Nat → Nat} {h0 : Hp} {Q : Option Value → Tf → Tg → Te → Prop} (f : Tf) (g : Tg) (e : Te) (p : Int32) (k : Int32) (hv : (((inB p 0 (f 21 - 1)) = true → (∃ P : Nat, p = nI P ∧ PP f g P) ∧ vp_in p 5 ∧ (((inB k 0 (((putL f g p.toNatClampNeg (PL f g p.toNatClampNeg)) 23 p.toNatClampNeg) - 1)) = false → Q (some (.int (-3))) f (putL f g p.toNatClampNeg (PL f g p.toNatClampNeg)) e) ∧ ((inB k 0 (((putL f g p.toNatClampNeg (PL f g p.toNatClampNeg)) 23 p.toNatClampNeg) - 1)) = true → vp_in ((200 * p) + k) 1000 ∧ Q (some (.int ((putL f g p.toNatClampNeg (PL f g p.toNatClampNeg)) 24 ((200 * p) + k).toNatClampNeg))) f (putL f g p.toNatClampNeg (PL f g p.toNatClampNeg)) e))) ∧ ((inB p 0 (f 21 - 1)) = false → Q (some (.int (-2))) f g e))) :
    AWT G o ad h0 MX9_placement Q f g e 0 [(0, .ref o), (1, .int p), (2, .int k)] [] := by
  refine AWT_aload_n (pc := 0) dX9_placement_0 rfl 0 rfl ?_
  refine AWT_iload_n (pc := 1) dX9_placement_1 rfl 1 rfl ?_
  refine AWT_callV (M' := MX9_isPlan) (pc := 2) [.int p] [] rfl nmX9_isPlan ⟨rfl, rfl⟩ (ML.o q1286) q1288 qs47 q82 q1289 dX9_placement_2 rfl rfl (Nat.le_of_ble_eq_true rfl) ⟨Nat.le_of_ble_eq_true rfl, Nat.le_of_ble_eq_true rfl⟩ (mcX9_isPlan f g e p ) ?_
  rintro _ _ _ _ ⟨rfl, rfl, rfl, rfl⟩
  refine AWT_ifb_ne (pc := 5) (tgt := 11) dX9_placement_5 (by decide) (fun c1 => ?_) (fun c1 => ?_)
  · have hv := hv.1 c1
    refine AWT_aload_n (pc := 11) dX9_placement_11 rfl 0 rfl ?_
    refine AWT_iload_n (pc := 12) dX9_placement_12 rfl 1 rfl ?_
    have p2 := hv.1
    have hv := hv.2
    refine AWT_callV (M' := MX9_findPlacements) (pc := 13) [.int p] [] rfl nmX9_findPlacements ⟨rfl, rfl⟩ (ML.o q1306) q1308 qs49 q82 q1309 dX9_placement_13 rfl rfl (Nat.le_of_ble_eq_true rfl) ⟨Nat.le_of_ble_eq_true rfl, Nat.le_of_ble_eq_true rfl⟩ (mcX9_findPlacements f g e p p2) ?_
    rintro _ _ _ _ ⟨rfl, rfl, rfl, rfl⟩
    refine AWT_iload_n (pc := 16) dX9_placement_16 rfl 2 rfl ?_
    refine AWT_iconst (pc := 17) (v := 0) dX9_placement_17 (by decide) ?_
    refine AWT_aload_n (pc := 18) dX9_placement_18 rfl 0 rfl ?_
    refine AWT_getA (pc := 19) 23 (by decide) rfl rfl (FL.o q1066) dX9_placement_19 ?_
    refine AWT_iload_n (pc := 22) dX9_placement_22 rfl 1 rfl ?_
    refine AWT_iald (pc := 23) (k := 23) (n := 5) rfl dX9_placement_23 hv.1 ?_
    have hv := hv.2
    refine AWT_iconst (pc := 24) (v := 1) dX9_placement_24 (by decide) ?_
    refine AWT_isub (pc := 25) dX9_placement_25 ?_
    refine AWT_callS (M' := MX9_in) (pc := 26) [.int k, .int 0, .int (((putL f g p.toNatClampNeg (PL f g p.toNatClampNeg)) 23 p.toNatClampNeg) - 1)] [] nmX9_in ⟨rfl, rfl⟩ (ML.o q1180) q1181 q82 q1182 dX9_placement_26 rfl rfl (Nat.le_of_ble_eq_true rfl) ⟨Nat.le_of_ble_eq_true rfl, Nat.le_of_ble_eq_true rfl⟩ (mcX9_in f (putL f g p.toNatClampNeg (PL f g p.toNatClampNeg)) e k 0 (((putL f g p.toNatClampNeg (PL f g p.toNatClampNeg)) 23 p.toNatClampNeg) - 1) ) ?_
    rintro _ _ _ _ ⟨rfl, rfl, rfl, rfl⟩
    refine AWT_ifb_eq (pc := 29) (tgt := 47) dX9_placement_29 (by decide) (fun c3 => ?_) (fun c3 => ?_)
    · have hv := hv.1 c3
      refine AWT_bipush (pc := 47) (v := (-3)) dX9_placement_47 (by decide) ?_
      exact AWT_iret (pc := 49) rfl rfl dX9_placement_49 hv
    · have hv := hv.2 c3
      refine AWT_aload_n (pc := 32) dX9_placement_32 rfl 0 rfl ?_
      refine AWT_getA (pc := 33) 24 (by decide) rfl rfl (FL.o q1067) dX9_placement_33 ?_
      refine AWT_sipush (pc := 36) (v := 200) dX9_placement_36 (by decide) ?_
      refine AWT_iload_n (pc := 39) dX9_placement_39 rfl 1 rfl ?_
      refine AWT_imul (pc := 40) dX9_placement_40 ?_
      refine AWT_iload_n (pc := 41) dX9_placement_41 rfl 2 rfl ?_
      refine AWT_iadd (pc := 42) dX9_placement_42 ?_
      refine AWT_iald (pc := 43) (k := 24) (n := 1000) rfl dX9_placement_43 hv.1 ?_
      have hv := hv.2
      refine AWT_goto (pc := 44) (tgt := 49) dX9_placement_44 (by decide) ?_
      exact AWT_iret (pc := 49) rfl rfl dX9_placement_49 hv
  · have hv := hv.2 c1
    refine AWT_bipush (pc := 8) (v := (-2)) dX9_placement_8 (by decide) ?_
    exact AWT_iret (pc := 10) rfl rfl dX9_placement_10 hv
theorem mcX9_placement {G : Gl} {o : Nat} {ad : Nat → Nat} (f : Tf) (g : Tg) (e : Te) (p : Int32) (k : Int32) (h1 : MI f g) : MCT G o ad MX9_placement [.ref o, .int p, .int k] f g e (fun v0 f1 g1 e1 => v0 = some (.int (rPlacement f g p k)) ∧ f = f1 ∧ (if inB p 0 (f 21 - 1) then putL f g p.toNatClampNeg (PL f g p.toNatClampNeg) else g) = g1 ∧ e = e1) := by
  refine MCT.of ⟨rfl, rfl⟩ (by decide) (Nat.le_of_ble_eq_true rfl) rfl (fun h0 => vcX9_placement_0 f g e p k ?_)
  refine ⟨fun c => ?_, fun c => by simp [rPlacement, c]⟩
  obtain ⟨a, n, rfl, ha, hn, hn5, han, -⟩ := h1.plan c
  have hlen := PL_len (h1.PP hn hn5 han)
  simp only [rPlacement, c, if_true, nc a, putL_23]
  refine ⟨⟨a, rfl, h1.PP hn hn5 han⟩, vp_in_nI ha (by decide), fun c2 => by simp [c2], fun c2 => ?_⟩
  obtain ⟨k', hk', rfl⟩ := inB_lo c2 (by omega)
  have e1 : (200 * nI a + nI k' : Int32) = nI (200 * a + k') := by rw [lm 200 a, nI_add]
  rw [e1, nc (200 * a + k'), putL_24, if_pos (by omega), show 200 * a + k' - 200 * a = k' by omega, nc k']
  exact ⟨vp_in_nI (by omega) (by decide), by simp [c2]⟩
