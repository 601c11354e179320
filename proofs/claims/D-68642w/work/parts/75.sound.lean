/-! ===== is the instruction sound: the two answers alike ===== -/
def OX (o k0 k1 k2 : Int32) (g : Bool) : Bool := bnd (α := Int32) (k0) fun v1 => bnd (α := Int32) (k1) fun v2 => bnd (α := Int32) (k2) fun v3 => bnd (α := Bool) (if v1 = (1 : Int32) then true else (if v1 = (2 : Int32) then true else false)) fun p4 => bnd (α := Bool) (if v1 = (1 : Int32) then true else false) fun p5 => bnd (α := Bool) (if v2 = 0 then (if v3 = 0 then true else false) else false) fun p6 => bnd (α := Bool) (if v3 = 0 then true else false) fun p7 => if (9 : Int32) ≤ o then (if o = (9 : Int32) then (if (b2i p4) = 0 then false else (if (b2i p7) = 0 then false else (if v2 = (1 : Int32) then true else (if v2 = (3 : Int32) then true else false)))) else (bnd (α := Bool) (if o = (10 : Int32) then true else (if o = (48 : Int32) then true else (if o = (49 : Int32) then true else false))) fun b8 => if b8 = true then (if (b2i p4) = 0 then false else (if (b2i p7) = 0 then false else (if v2 = (1 : Int32) then true else false))) else (if o = (11 : Int32) then (if (b2i p5) = 0 then false else (if (b2i p7) = 0 then false else (if v2 = (2 : Int32) then true else false))) else (bnd (α := Bool) (if o < (15 : Int32) then (if o = (30 : Int32) then true else (if o = (35 : Int32) then true else false)) else (if o ≤ (22 : Int32) then true else (if o = (30 : Int32) then true else (if o = (35 : Int32) then true else false)))) fun b9 => if b9 = true then (if (b2i p4) = 0 then false else (if (b2i p6) = 0 then false else true)) else (if o = (23 : Int32) then (if (b2i p5) = 0 then false else (if v2 = (1 : Int32) then (if (b2i p7) = 0 then (if v3 = (3 : Int32) then true else false) else true) else (if v2 = (2 : Int32) then (if (b2i p7) = 0 then (if v3 = (3 : Int32) then true else false) else true) else false))) else (bnd (α := Bool) (if o < (24 : Int32) then false else (if (28 : Int32) < o then false else true)) fun b10 => if b10 = true then (if (b2i p4) = 0 then false else (if (b2i p7) = 0 then false else (if v2 = (3 : Int32) then true else (if v2 = (1 : Int32) then g else false)))) else (bnd (α := Bool) (if o = (29 : Int32) then true else (if o = (31 : Int32) then true else (if o = (32 : Int32) then true else false))) fun b11 => if b11 = true then (if v1 = 0 then false else (if (b2i p6) = 0 then false else true)) else (if o = (33 : Int32) then (if (b2i p6) = 0 then false else (if v1 = 0 then true else (if v1 = (3 : Int32) then true else false))) else (if o = (34 : Int32) then (if (b2i p6) = 0 then false else (if v1 = (3 : Int32) then true else false)) else (if o = (46 : Int32) then (if (b2i p5) = 0 then false else (if (b2i p6) = 0 then false else true)) else (if o = (47 : Int32) then (if (b2i p4) = 0 then false else (if (b2i p7) = 0 then false else (if v2 = (1 : Int32) then true else (if v2 = (3 : Int32) then true else false)))) else (bnd (α := Bool) (if o < (12 : Int32) then (if o = (36 : Int32) then true else (if o = (44 : Int32) then true else (if o = (45 : Int32) then true else false))) else (if o ≤ (14 : Int32) then true else (if o = (36 : Int32) then true else (if o = (44 : Int32) then true else (if o = (45 : Int32) then true else false))))) fun b12 => if b12 = true then (if (b2i p5) = 0 then false else (if (b2i p7) = 0 then false else (if v2 = (1 : Int32) then true else (if v2 = (2 : Int32) then true else false)))) else (if v1 = 0 then (if (b2i p6) = 0 then false else true) else false))))))))))))) else (if (b2i p4) = 0 then false else (if (b2i p7) = 0 then false else (if v2 = 0 then false else (if (b2i p5) = 0 then (if v2 = (2 : Int32) then false else true) else true))))
def OM (o k0 k1 k2 : Int32) (g pl n8 n16 : Bool) : Bool := bnd (α := Int32) (k0) fun v1 => bnd (α := Int32) (k1) fun v2 => bnd (α := Bool) (if k2 = 0 then true else false) fun p3 => bnd (α := Bool) (if v2 = 0 then (if (b2i p3) = 0 then false else true) else false) fun p4 => bnd (α := Bool) (if o < (11 : Int32) then true else (if o = (48 : Int32) then true else (if o = (49 : Int32) then true else false))) fun b5 => if b5 = true then (if (b2i p3) = 0 then false else (if (b2i (if k0 = (1 : Int32) then true else (if k0 = (2 : Int32) then true else false))) = 0 then (if (9 : Int32) ≤ o then (if (10 : Int32) ≤ o then false else (if (b2i (if k0 = (1 : Int32) then true else (if k0 = (2 : Int32) then true else false))) = 0 then false else (if (b2i (if k1 = (3 : Int32) then pl else false)) = 0 then false else true))) else (bnd (α := Bool) (if v1 = (1 : Int32) then (if v2 = (2 : Int32) then false else true) else true) fun b6 => if b6 = true then (if (10 : Int32) ≤ o then false else (if (b2i (if k0 = (1 : Int32) then true else (if k0 = (2 : Int32) then true else false))) = 0 then false else (if (b2i (if k1 = (3 : Int32) then pl else false)) = 0 then false else true))) else true)) else (if v2 = (1 : Int32) then true else (if (9 : Int32) ≤ o then (if (10 : Int32) ≤ o then false else (if (b2i (if k0 = (1 : Int32) then true else (if k0 = (2 : Int32) then true else false))) = 0 then false else (if (b2i (if k1 = (3 : Int32) then pl else false)) = 0 then false else true))) else (bnd (α := Bool) (if v1 = (1 : Int32) then (if v2 = (2 : Int32) then false else true) else true) fun b7 => if b7 = true then (if (10 : Int32) ≤ o then false else (if (b2i (if k0 = (1 : Int32) then true else (if k0 = (2 : Int32) then true else false))) = 0 then false else (if (b2i (if k1 = (3 : Int32) then pl else false)) = 0 then false else true))) else true))))) else (if o = (11 : Int32) then (if (b2i p3) = 0 then false else (if v1 = (1 : Int32) then (if v2 = (2 : Int32) then true else false) else false)) else (bnd (α := Bool) (if o < (15 : Int32) then true else (if o = (36 : Int32) then true else (if o = (44 : Int32) then true else (if o = (45 : Int32) then true else false)))) fun b8 => if b8 = true then (if (b2i p3) = 0 then false else (if v1 = (1 : Int32) then (if (b2i (if k1 = (1 : Int32) then true else (if k1 = (2 : Int32) then true else false))) = 0 then false else true) else false)) else (bnd (α := Bool) (if o < (23 : Int32) then true else (if o = (30 : Int32) then true else (if o = (35 : Int32) then true else false))) fun b9 => if b9 = true then (if (b2i p4) = 0 then false else (if (b2i (if k0 = (1 : Int32) then true else (if k0 = (2 : Int32) then true else false))) = 0 then false else true)) else (if o = (23 : Int32) then (if v1 = (1 : Int32) then (if (b2i (if k1 = (1 : Int32) then true else (if k1 = (2 : Int32) then true else false))) = 0 then false else (if (b2i p3) = 0 then (if (b2i (if k2 = (3 : Int32) then pl else false)) = 0 then false else true) else true)) else false) else (if (29 : Int32) ≤ o then (bnd (α := Bool) (if o = (29 : Int32) then true else (if o = (31 : Int32) then true else (if o = (32 : Int32) then true else false))) fun b10 => if b10 = true then (if (b2i p4) = 0 then false else (if (b2i (if k0 = (1 : Int32) then true else (if k0 = (2 : Int32) then true else false))) = 0 then (if (b2i (if k0 = (3 : Int32) then pl else false)) = 0 then false else true) else true)) else (if o = (33 : Int32) then (if (b2i p4) = 0 then false else (if v1 = 0 then true else (if (b2i (if k0 = (3 : Int32) then n16 else false)) = 0 then false else true))) else (if o = (34 : Int32) then (if (b2i p4) = 0 then false else (if (b2i (if k0 = (3 : Int32) then pl else false)) = 0 then false else true)) else (if o = (46 : Int32) then (if (b2i p4) = 0 then false else (if v1 = (1 : Int32) then true else false)) else (if o = (47 : Int32) then (if (b2i p3) = 0 then false else (if (b2i (if k0 = (1 : Int32) then true else (if k0 = (2 : Int32) then true else false))) = 0 then false else (if v2 = (1 : Int32) then true else (if (b2i (if k1 = (3 : Int32) then n8 else false)) = 0 then false else true)))) else (if v1 = 0 then (if (b2i p4) = 0 then false else true) else false)))))) else (if (b2i p3) = 0 then false else (if (b2i (if k0 = (1 : Int32) then true else (if k0 = (2 : Int32) then true else false))) = 0 then false else (if v2 = (1 : Int32) then (if g = true then true else (if (b2i (if k1 = (3 : Int32) then n8 else false)) = 0 then false else true)) else (if (b2i (if k1 = (3 : Int32) then n8 else false)) = 0 then false else true)))))))))
def SX (o : Int32) (z0 z1 z4 z8 : Bool) : Bool := bnd (α := Bool) (if o < (31 : Int32) then (if o < (39 : Int32) then false else (if (43 : Int32) < o then false else true)) else (if o ≤ (34 : Int32) then true else (if o < (39 : Int32) then false else (if (43 : Int32) < o then false else true)))) fun p1 => bnd (α := Bool) (if o = (14 : Int32) then true else (if o = (29 : Int32) then true else (if o = (30 : Int32) then true else false))) fun p2 => bnd (α := Bool) (if o < (11 : Int32) then (if o = (23 : Int32) then true else (if o = (36 : Int32) then true else (if o = (37 : Int32) then true else (if o = (38 : Int32) then true else (if o < (44 : Int32) then false else (if (47 : Int32) < o then false else true)))))) else (if o ≤ (13 : Int32) then true else (if o = (23 : Int32) then true else (if o = (36 : Int32) then true else (if o = (37 : Int32) then true else (if o = (38 : Int32) then true else (if o < (44 : Int32) then false else (if (47 : Int32) < o then false else true)))))))) fun p3 => if (b2i p1) = 0 then (if (b2i p2) = 0 then (if o = (35 : Int32) then (if z1 = true then true else false) else (if z4 = true then true else (if z8 = true then true else (if z1 = true then (if (b2i p3) = 0 then true else false) else false)))) else (if z8 = true then true else false)) else (if z0 = true then true else false)
def SM (o : Int32) (z0 z1 z4 z8 : Bool) : Bool := bnd (α := Bool) (if z1 = true then true else (if z4 = true then true else (if z8 = true then true else false))) fun p1 => bnd (α := Bool) (if z4 = true then true else (if z8 = true then true else false)) fun p2 => bnd (α := Bool) (if o = (14 : Int32) then true else (if o = (29 : Int32) then true else (if o = (30 : Int32) then true else false))) fun b3 => if b3 = true then (if z8 = true then true else false) else (if o = (35 : Int32) then (if z1 = true then true else false) else (bnd (α := Bool) (if o ≤ (30 : Int32) then (if o ≤ (38 : Int32) then false else (if (44 : Int32) ≤ o then false else true)) else (if o < (35 : Int32) then true else (if o ≤ (38 : Int32) then false else (if (44 : Int32) ≤ o then false else true)))) fun b4 => if b4 = true then (if z0 = true then true else false) else (bnd (α := Bool) (if o < (11 : Int32) then true else (if o ≤ (14 : Int32) then (if o ≤ (23 : Int32) then (if o = (48 : Int32) then true else (if o = (49 : Int32) then true else (if o ≤ (49 : Int32) then false else true))) else (if o < (29 : Int32) then true else (if o = (48 : Int32) then true else (if o = (49 : Int32) then true else (if o ≤ (49 : Int32) then false else true))))) else (if o < (23 : Int32) then true else (if o ≤ (23 : Int32) then (if o = (48 : Int32) then true else (if o = (49 : Int32) then true else (if o ≤ (49 : Int32) then false else true))) else (if o < (29 : Int32) then true else (if o = (48 : Int32) then true else (if o = (49 : Int32) then true else (if o ≤ (49 : Int32) then false else true)))))))) fun p5 => if (b2i p5) = 0 then p2 else p1)))
/-- the number's range, as M's plain rule has it -/
def PLB (o w : Int32) (n : Int64) : Bool := if (if o = (8 : Int32) then (if w = (8 : Int32) then true else false) else false) = true then true else (if w = (1 : Int32) then s_in n (-128) 127 else s_in n (-2147483648) 2147483647)
def SEL (o : Int32) (pl n8 n16 : Bool) : Bool := if (if o < (24 : Int32) then (if o = (47 : Int32) then true else false) else (if o ≤ (28 : Int32) then true else (if o = (47 : Int32) then true else false))) = true then n8 else (if o = (33 : Int32) then n16 else pl)
theorem plain_eq (L : MK) (k : Int32) : m_isPlain L k = (if km_kinds L k.toNatClampNeg = (3 : Int32) then PLB (km_op L) (km_width L) (km_number L) else false) := by
  unfold m_isPlain PLB
  rw [bnd_app]
  by_cases c : (if km_op L = (8 : Int32) then (if km_width L = (8 : Int32) then true else false) else false) = true
  · rw [if_pos c, if_pos c]
  · rw [if_neg c, if_neg c]
    by_cases c1 : km_width L = 1
    · rw [if_pos c1, if_pos c1]; rfl
    · rw [if_neg c1, if_neg c1]; rfl
theorem fits_eq (K : XK) : s_fits K = SEL (kx_op K) (PLB (kx_op K) (kx_size K) (kx_number K)) (s_in (kx_number K) 0 255) (s_in (kx_number K) 0 65535) := by
  unfold s_fits SEL
  rw [bnd_app]
  by_cases c : (if kx_op K < (24 : Int32) then (if kx_op K = (47 : Int32) then true else false) else (if kx_op K ≤ (28 : Int32) then true else (if kx_op K = (47 : Int32) then true else false))) = true
  · rw [if_pos c, if_pos c]
  · rw [if_neg c, if_neg c]
    by_cases c1 : kx_op K = 33
    · rw [if_pos c1, if_pos c1]
    · rw [if_neg c1, if_neg c1]
      unfold PLB
      have key : ∀ b : Bool, (if b2i b = 0 then false else true) = b := by decide
      by_cases c2 : kx_size K = 1
      · rw [if_pos c2, if_pos c2, if_neg (by rw [c2]; by_cases c3 : kx_op K = 8 <;> simp [c3])]
      · rw [if_neg c2, if_neg c2, key]
        by_cases c3 : kx_op K = 8
        · by_cases c4 : kx_size K = 8
          · simp [c3, c4]
          · simp [c3, c4]
        · simp [c3]
theorem ops_x (K : XK) : s_operands K = OX (kx_op K) (kx_kinds K (0 : Int32).toNatClampNeg) (kx_kinds K (1 : Int32).toNatClampNeg) (kx_kinds K (2 : Int32).toNatClampNeg) (if kx_regs K (1 : Int32).toNatClampNeg = (1 : Int32) then true else false) := rfl
theorem ite_g {α : Type} (p : Prop) [Decidable p] (a b : α) : (if (if p then true else false) = true then a else b) = (if p then a else b) := by
  by_cases c : p
  · rw [if_pos c, if_pos rfl, if_pos c]
  · rw [if_neg c, if_neg (by decide), if_neg c]
theorem ops_m (L : MK) : m_operandsFit L = OM (km_op L) (km_kinds L (0 : Int32).toNatClampNeg) (km_kinds L (1 : Int32).toNatClampNeg) (km_kinds L (2 : Int32).toNatClampNeg) (if km_places L (1 : Int32).toNatClampNeg = (1 : Int32) then true else false) (PLB (km_op L) (km_width L) (km_number L)) (s_in (km_number L) 0 255) (s_in (km_number L) 0 65535) := by
  unfold m_operandsFit OM
  simp only [plain_eq, ite_g]
  rfl
/-- X's whole rule of kinds, numbers and memory -/
def FX (o k0 k1 k2 : Int32) (g fx mem : Bool) : Bool := if b2i (OX o k0 k1 k2 g) = 0 then false else (if b2i (if k0 = (2 : Int32) then true else (if k1 = (2 : Int32) then true else false)) = 0 then (if b2i (if k0 = (3 : Int32) then true else (if k1 = (3 : Int32) then true else (if k2 = (3 : Int32) then true else false))) = 0 then true else (if b2i fx = 0 then false else true)) else (if b2i mem = 0 then false else (if b2i (if k0 = (3 : Int32) then true else (if k1 = (3 : Int32) then true else (if k2 = (3 : Int32) then true else false))) = 0 then true else (if b2i fx = 0 then false else true))))
def CN (k0 k1 k2 : Int32) : Int32 := 0 + (if k0 = (2 : Int32) then 1 else 0) + (if k1 = (2 : Int32) then 1 else 0) + (if k2 = (2 : Int32) then 1 else 0)
def FM (o k0 k1 k2 : Int32) (g pl n8 n16 mem : Bool) : Bool := if b2i (OM o k0 k1 k2 g pl n8 n16) = 0 then false else (if (2 : Int32) ≤ CN k0 k1 k2 then false else (if CN k0 k1 k2 = 0 then true else (if b2i mem = 0 then false else true)))
theorem fx_fm : ∀ mem : Bool, ∀ o, o < 54 → ∀ k0, k0 < 4 → ∀ k1, k1 < 4 → ∀ k2, k2 < 4 → ∀ g pl n8 n16 : Bool, FX (nI o) (nI k0) (nI k1) (nI k2) g (SEL (nI o) pl n8 n16) mem = FM (nI o) (nI k0) (nI k1) (nI k2) g pl n8 n16 mem := by decide +kernel
/-! the sizes -/
theorem size_x (o sz : Int32) : s_isSize o sz = SX o (if sz = (0 : Int32) then true else false) (if sz = (1 : Int32) then true else false) (if sz = (4 : Int32) then true else false) (if sz = (8 : Int32) then true else false) := by
  unfold s_isSize SX
  simp only [ite_g]
theorem size_m (L : MK) : m_sizeFits L = SM (km_op L) (if km_width L = (0 : Int32) then true else false) (if km_width L = (1 : Int32) then true else false) (if km_width L = (4 : Int32) then true else false) (if km_width L = (8 : Int32) then true else false) := by
  unfold m_sizeFits SM
  simp only [ite_g]
theorem sx_sm : ∀ o, o < 54 → ∀ z0 z1 z4 z8 : Bool, SX (nI o) z0 z1 z4 z8 = SM (nI o) z0 z1 z4 z8 := by decide +kernel
/-! the memory operand -/
theorem sin32 (x lo hi : Int32) : s_in x.toInt64 lo.toInt64 hi.toInt64 = (if x < lo then false else (if hi < x then false else true)) := by
  unfold s_in
  simp only [Int64.lt_iff_toInt_lt, i2l_toInt, Int32.lt_iff_toInt_lt]
theorem sin_no {x lo hi : Int32} (h : x.toInt < lo.toInt ∨ hi.toInt < x.toInt) : s_in x.toInt64 lo.toInt64 hi.toInt64 = false := by
  rw [sin32]
  by_cases c : x < lo
  · rw [if_pos c]
  · rw [if_neg c]
    rw [Int32.lt_iff_toInt_lt] at c
    rw [if_pos (by rw [Int32.lt_iff_toInt_lt]; omega)]
theorem sin_yes {x lo hi : Int32} (h : ¬ x.toInt < lo.toInt) (h2 : ¬ hi.toInt < x.toInt) : s_in x.toInt64 lo.toInt64 hi.toInt64 = true := by
  rw [sin32, if_neg (by rw [Int32.lt_iff_toInt_lt]; exact h), if_neg (by rw [Int32.lt_iff_toInt_lt]; exact h2)]
theorem lm1 : (-1 : Int64) = (-1 : Int32).toInt64 := by decide
theorem l16 : (16 : Int64) = (16 : Int32).toInt64 := by decide
theorem l0 : (0 : Int64) = (0 : Int32).toInt64 := by decide
theorem l15 : (15 : Int64) = (15 : Int32).toInt64 := by decide
theorem l53 : (53 : Int64) = (53 : Int32).toInt64 := by decide
def MMX (b i s : Int32) : Bool := if (if (b2i (s_in (b.toInt64) (-1 : Int64) (16 : Int64))) = 0 then true else (if (b2i (if i = (-1 : Int32) then false else true)) = 0 then false else (if (b2i (s_in (i.toInt64) (0 : Int64) (15 : Int64))) = 0 then true else (if i = (4 : Int32) then true else (if b = (16 : Int32) then true else false))))) = true then false else (if (b2i (if i = (-1 : Int32) then false else true)) = 0 then (if s = (1 : Int32) then true else false) else (if s = (1 : Int32) then true else (if s = (2 : Int32) then true else (if s = (4 : Int32) then true else (if s = (8 : Int32) then true else false)))))
def MMM (b i s : Int32) : Bool := if b < (-1 : Int32) then false else (if (16 : Int32) < b then false else (if i < (-1 : Int32) then false else (if (15 : Int32) < i then false else (if i = (4 : Int32) then false else (if (b2i (if s = (1 : Int32) then true else (if s = (2 : Int32) then true else (if s = (4 : Int32) then true else (if s = (8 : Int32) then true else false))))) = 0 then false else (if 0 ≤ i then (if b = (16 : Int32) then (if 0 ≤ i then false else true) else true) else (if s = (1 : Int32) then (if b = (16 : Int32) then (if 0 ≤ i then false else true) else true) else false)))))))
theorem mmx (K : XK) : s_isMemory K = MMX (kx_base K) (kx_index K) (kx_scale K) := rfl
theorem mmm (L : MK) : m_memoryFits L = MMM (km_base L) (km_index L) (km_scale L) := rfl
theorem if_ff (x : Bool) : (if b2i x = 0 then false else false) = false := by cases x <;> rfl
theorem mm_eq (b i s : Int32) : MMX b i s = MMM b i s := by
  unfold MMX MMM
  have m1 : (-1 : Int32).toInt = -1 := by decide
  have c16 : (16 : Int32).toInt = 16 := by decide
  have c15 : (15 : Int32).toInt = 15 := by decide
  have c0 : (0 : Int32).toInt = 0 := by decide
  by_cases b1 : b < -1
  · have b1' := b1
    rw [Int32.lt_iff_toInt_lt, m1] at b1'
    have e : s_in b.toInt64 (-1) 16 = false := by rw [lm1, l16]; exact sin_no (by omega)
    rw [if_pos b1, e, if_f, if_pos rfl]
  · have b1' := b1
    rw [Int32.lt_iff_toInt_lt, m1] at b1'
    rw [if_neg b1]
    by_cases b2 : 16 < b
    · have b2' := b2
      rw [Int32.lt_iff_toInt_lt, c16] at b2'
      have e : s_in b.toInt64 (-1) 16 = false := by rw [lm1, l16]; exact sin_no (by omega)
      rw [if_pos b2, e, if_f, if_pos rfl]
    · have b2' := b2
      rw [Int32.lt_iff_toInt_lt, c16] at b2'
      have e : s_in b.toInt64 (-1) 16 = true := by rw [lm1, l16]; exact sin_yes (by omega) (by omega)
      rw [if_neg b2, e, if_t]
      by_cases i1 : i = -1
      · subst i1
        rw [if_pos rfl, if_f, if_neg (show ¬ false = true by decide), if_f, if_neg (show ¬ (-1 : Int32) < -1 by decide), if_neg (show ¬ (15 : Int32) < -1 by decide), if_neg (show ¬ (-1 : Int32) = 4 by decide)]
        rw [if_neg (show ¬ (0 : Int32) ≤ -1 by decide)]
        by_cases s1 : s = 1
        · subst s1
          rw [if_pos rfl, if_pos rfl, if_pos rfl, if_t, if_neg (show ¬ (0 : Int32) ≤ -1 by decide)]
          split <;> rfl
        · rw [if_neg s1, if_neg s1, if_neg s1]
          exact (if_ff _).symm
      · rw [if_neg i1, if_t, if_t]
        have i1' : ¬ i.toInt = -1 := fun q => i1 (Int32.toInt_inj.mp (q.trans m1.symm))
        by_cases i2 : i < -1
        · have i2' := i2
          rw [Int32.lt_iff_toInt_lt, m1] at i2'
          have e2 : s_in i.toInt64 0 15 = false := by rw [l0, l15]; exact sin_no (by omega)
          rw [if_pos i2, e2, if_f, if_pos rfl]
        · have i2' := i2
          rw [Int32.lt_iff_toInt_lt, m1] at i2'
          rw [if_neg i2]
          by_cases i3 : 15 < i
          · have i3' := i3
            rw [Int32.lt_iff_toInt_lt, c15] at i3'
            have e2 : s_in i.toInt64 0 15 = false := by rw [l0, l15]; exact sin_no (by omega)
            rw [if_pos i3, e2, if_f, if_pos rfl]
          · have i3' := i3
            rw [Int32.lt_iff_toInt_lt, c15] at i3'
            have e2 : s_in i.toInt64 0 15 = true := by rw [l0, l15]; exact sin_yes (by omega) (by omega)
            rw [if_neg i3, e2, if_t]
            have i0 : 0 ≤ i := by rw [Int32.le_iff_toInt_le, c0]; omega
            simp only [if_pos i0]
            have key : ∀ x : Bool, (if b2i x = 0 then false else true) = x := by decide
            by_cases i4 : i = 4
            · rw [if_pos i4, if_pos i4, if_pos rfl]
            · rw [if_neg i4, if_neg i4]
              by_cases b3 : b = 16
              · rw [if_pos b3, if_pos rfl, if_pos b3]; exact (if_ff _).symm
              · rw [if_neg b3, if_neg (show ¬ false = true by decide), if_neg b3, key]
/-! the whole -/
theorem sx_form (K : XK) : s_is K = (s_in (kx_op K).toInt64 0 53 && (s_isSize (kx_op K) (kx_size K) && ((if (if kx_op K < (34 : Int32) then false else (if (36 : Int32) < kx_op K then false else true)) = true then s_in (kx_cond K).toInt64 0 15 else (if kx_cond K = 0 then true else false)) && FX (kx_op K) (kx_kinds K (0 : Int32).toNatClampNeg) (kx_kinds K (1 : Int32).toNatClampNeg) (kx_kinds K (2 : Int32).toNatClampNeg) (if kx_regs K (1 : Int32).toNatClampNeg = (1 : Int32) then true else false) (s_fits K) (s_isMemory K)))) := by
  have key : ∀ R S B C Z F : Bool, (if b2i R = 0 then false else (if b2i S = 0 then false else (if B = true then (if b2i C = 0 then false else F) else (if Z = true then F else false)))) = (R && (S && ((if B = true then C else Z) && F))) := by decide
  rw [← key]
  unfold s_is
  simp only [bnd_app, ite_g]
  rfl
theorem l91_step (L : MK) (p : Bool) (n : Nat) (c j : Int32) (h : ¬ 3 ≤ j) : m_isSound_L91 L p (n + 1) c j = m_isSound_L91 L p n (c + (if km_kinds L j.toNatClampNeg = 2 then 1 else 0)) (j + 1) := by
  rw [m_isSound_L91_s, if_neg h]
  simp only [bnd_app]
  by_cases q : km_kinds L j.toNatClampNeg = 2
  · rw [if_pos q, if_pos q]
  · rw [if_neg q, if_neg q]
theorem l91_eq (L : MK) (p : Bool) : m_isSound_L91 L p (mI (0 : Int32) 3 + 1) 0 0 = (if b2i p = 0 then false else (if (2 : Int32) ≤ CN (km_kinds L (0 : Int32).toNatClampNeg) (km_kinds L (1 : Int32).toNatClampNeg) (km_kinds L (2 : Int32).toNatClampNeg) then false else (if CN (km_kinds L (0 : Int32).toNatClampNeg) (km_kinds L (1 : Int32).toNatClampNeg) (km_kinds L (2 : Int32).toNatClampNeg) = 0 then true else (if b2i (m_memoryFits L) = 0 then false else true)))) := by
  have e : mI (0 : Int32) 3 = 3 := by decide
  have a1 : (0 : Int32) + 1 = 1 := by decide
  have a2 : (1 : Int32) + 1 = 2 := by decide
  have a3 : (2 : Int32) + 1 = 3 := by decide
  rw [e, l91_step L p 3 0 0 (by decide), a1, l91_step L p 2 _ 1 (by decide), a2, l91_step L p 1 _ 2 (by decide), a3, m_isSound_L91_s, if_pos (show (3 : Int32) ≤ 3 by decide)]
  rfl
theorem sm_form (L : MK) : m_isSound L = (s_in (km_op L).toInt64 0 53 && (m_sizeFits L && ((if km_op L ≤ (33 : Int32) then (if km_condition L = 0 then true else false) else (if (37 : Int32) ≤ km_op L then (if km_condition L = 0 then true else false) else (if km_condition L < 0 then false else (if (16 : Int32) ≤ km_condition L then false else true)))) && FM (km_op L) (km_kinds L (0 : Int32).toNatClampNeg) (km_kinds L (1 : Int32).toNatClampNeg) (km_kinds L (2 : Int32).toNatClampNeg) (if km_places L (1 : Int32).toNatClampNeg = (1 : Int32) then true else false) (PLB (km_op L) (km_width L) (km_number L)) (s_in (km_number L) 0 255) (s_in (km_number L) 0 65535) (m_memoryFits L)))) := by
  unfold m_isSound
  rw [bnd_app, l91_eq, l0, l53, sin32, ops_m]
  unfold FM
  have key : ∀ R S O C F : Bool, (if b2i S = 0 then false else (if b2i O = 0 then false else (if b2i C = 0 then false else F))) = (true && (S && (C && (if b2i O = 0 then false else F)))) := by decide
  by_cases c1 : km_op L < 0
  · rw [if_pos c1, if_pos c1]; rfl
  · rw [if_neg c1, if_neg c1]
    by_cases c2 : 53 < km_op L
    · rw [if_pos c2, if_pos c2]; rfl
    · rw [if_neg c2, if_neg c2]
      exact key true _ _ _ _
theorem cond_eq (o c : Int32) : (if (if o < (34 : Int32) then false else (if (36 : Int32) < o then false else true)) = true then s_in c.toInt64 0 15 else (if c = 0 then true else false)) = (if o ≤ (33 : Int32) then (if c = 0 then true else false) else (if (37 : Int32) ≤ o then (if c = 0 then true else false) else (if c < 0 then false else (if (16 : Int32) ≤ c then false else true)))) := by
  have c34 : (34 : Int32).toInt = 34 := by decide
  have c33 : (33 : Int32).toInt = 33 := by decide
  have c36 : (36 : Int32).toInt = 36 := by decide
  have c37 : (37 : Int32).toInt = 37 := by decide
  have c15 : (15 : Int32).toInt = 15 := by decide
  have c16 : (16 : Int32).toInt = 16 := by decide
  by_cases a : o < 34
  · rw [if_pos a, if_neg (show ¬ false = true by decide)]
    rw [Int32.lt_iff_toInt_lt] at a
    rw [if_pos (show o ≤ 33 by rw [Int32.le_iff_toInt_le]; omega)]
  · rw [if_neg a]
    rw [Int32.lt_iff_toInt_lt] at a
    rw [if_neg (show ¬ o ≤ 33 by rw [Int32.le_iff_toInt_le]; omega)]
    by_cases b : 36 < o
    · rw [if_pos b, if_neg (show ¬ false = true by decide)]
      rw [Int32.lt_iff_toInt_lt] at b
      rw [if_pos (show 37 ≤ o by rw [Int32.le_iff_toInt_le]; omega)]
    · rw [if_neg b, if_pos rfl]
      rw [Int32.lt_iff_toInt_lt] at b
      rw [if_neg (show ¬ 37 ≤ o by rw [Int32.le_iff_toInt_le]; omega), l0, l15, sin32]
      by_cases z : c < 0
      · rw [if_pos z, if_pos z]
      · rw [if_neg z, if_neg z]
        by_cases y : 16 ≤ c
        · rw [if_pos y]
          rw [Int32.le_iff_toInt_le] at y
          rw [if_pos (by rw [Int32.lt_iff_toInt_lt]; omega)]
        · rw [if_neg y]
          rw [Int32.le_iff_toInt_le] at y
          rw [if_neg (by rw [Int32.lt_iff_toInt_lt]; omega)]
/-- kinds are 0 to 3 -/
def KD (K : XK) : Prop := ∀ i, i < 3 → ∃ k, k < 4 ∧ kx_kinds K i = nI k
theorem op_nat {o : Int32} (h : s_in o.toInt64 0 53 = true) : ∃ n, n < 54 ∧ o = nI n := by
  rw [l0, l53, sin32] at h
  have c53 : (53 : Int32).toInt = 53 := by decide
  have c0 : (0 : Int32).toInt = 0 := by decide
  by_cases c : o < 0
  · rw [if_pos c] at h; cases h
  · rw [if_neg c] at h
    by_cases c2 : 53 < o
    · rw [if_pos c2] at h; cases h
    · rw [Int32.lt_iff_toInt_lt] at c c2
      refine ⟨o.toInt.toNat, by omega, ?_⟩
      apply Int32.toInt_inj.mp
      rw [nI_toInt (by omega)]; omega
theorem sound_eq {K : XK} {L : MK} (hi : RIn K L) (hk : KD K) : s_is K = m_isSound L := by
  obtain ⟨⟨⟨i1, i2, i3, i4⟩, i5, i6, i7, i8⟩, hk2, hr2⟩ := hi
  rw [sx_form, sm_form, ← i1, ← i3, ← i4, ← hk2 _ (show (0 : Int32).toNatClampNeg < 3 by decide), ← hk2 _ (show (1 : Int32).toNatClampNeg < 3 by decide), ← hk2 _ (show (2 : Int32).toNatClampNeg < 3 by decide), ← hr2 _ (show (1 : Int32).toNatClampNeg < 3 by decide), fits_eq, mmx, mmm, ← i5, ← i6, ← i7, mm_eq, cond_eq, size_x, size_m, ← i1, ← i2]
  by_cases c : s_in (kx_op K).toInt64 0 53 = true
  · obtain ⟨n, hn, eo⟩ := op_nat c
    obtain ⟨k0, hk0, e0⟩ := hk (0 : Int32).toNatClampNeg (by decide)
    obtain ⟨k1, hk1, e1⟩ := hk (1 : Int32).toNatClampNeg (by decide)
    obtain ⟨k2, hk2, e2⟩ := hk (2 : Int32).toNatClampNeg (by decide)
    rw [eo, e0, e1, e2, sx_sm n hn, fx_fm _ n hn k0 hk0 k1 hk1 k2 hk2]
  · rw [Bool.not_eq_true] at c
    rw [c]; rfl
/-! what a sound instruction is sure to have -/
theorem ff_all : ∀ o, o < 54 → ∀ k0, k0 < 4 → ∀ k1, k1 < 4 → ∀ k2, k2 < 4 → ∀ g fx mem : Bool, FX (nI o) (nI k0) (nI k1) (nI k2) g fx mem = true → (¬ k2 = 2 ∧ ((k0 = 2 ∨ k1 = 2) → mem = true) ∧ ((o < 29 ∨ o = 30 ∨ o = 35 ∨ o = 36 ∨ (44 ≤ o ∧ o < 50)) → k0 = 1 ∨ k0 = 2) ∧ ((o = 10 ∨ o = 48 ∨ o = 49) → k1 = 1) ∧ (o = 11 → k1 = 2) ∧ (o = 23 → k2 = 3 ∨ k2 = 0) ∧ ((o = 36 ∨ o = 46) → k0 = 1) ∧ (o = 34 → k0 = 3)) := by decide +kernel
theorem fs_all : ∀ o, o < 54 → ∀ z0 z1 z4 z8 : Bool, SX (nI o) z0 z1 z4 z8 = true → ((o < 29 ∨ (36 ≤ o ∧ o < 39) ∨ 44 ≤ o) → z1 = true ∨ z4 = true ∨ z8 = true) ∧ ((o = 23 ∨ o = 46 ∨ o = 47) → z4 = true ∨ z8 = true) := by decide +kernel
def SF (K : XK) (o : Nat) : Prop := (o < 54) ∧ (kx_op K = nI o) ∧ ((o < 29 ∨ (36 ≤ o ∧ o < 39) ∨ 44 ≤ o) → SZ (kx_size K)) ∧ ((o = 23 ∨ o = 46 ∨ o = 47) → kx_size K = 4 ∨ kx_size K = 8) ∧ (¬ kx_kinds K (2 : Int32).toNatClampNeg = 2) ∧ ((kx_kinds K (0 : Int32).toNatClampNeg = 2 ∨ kx_kinds K (1 : Int32).toNatClampNeg = 2) → XAdr K) ∧ ((o < 29 ∨ o = 30 ∨ o = 35 ∨ o = 36 ∨ (44 ≤ o ∧ o < 50)) → K12 K 0) ∧ ((o = 10 ∨ o = 48 ∨ o = 49) → kx_kinds K (1 : Int32).toNatClampNeg = 1) ∧ (o = 11 → kx_kinds K (1 : Int32).toNatClampNeg = 2) ∧ (o = 23 → kx_kinds K (2 : Int32).toNatClampNeg = 3 ∨ kx_kinds K (2 : Int32).toNatClampNeg = 0) ∧ ((o = 36 ∨ o = 46) → kx_kinds K (0 : Int32).toNatClampNeg = 1) ∧ (o = 34 → kx_kinds K (0 : Int32).toNatClampNeg = 3)
theorem SF.lt {K : XK} {o : Nat} (h : SF K o) : o < 54 := h.1
theorem SF.eo {K : XK} {o : Nat} (h : SF K o) : kx_op K = nI o := h.2.1
theorem SF.sz {K : XK} {o : Nat} (h : SF K o) : (o < 29 ∨ (36 ≤ o ∧ o < 39) ∨ 44 ≤ o) → SZ (kx_size K) := h.2.2.1
theorem SF.sz2 {K : XK} {o : Nat} (h : SF K o) : (o = 23 ∨ o = 46 ∨ o = 47) → kx_size K = 4 ∨ kx_size K = 8 := h.2.2.2.1
theorem SF.k2 {K : XK} {o : Nat} (h : SF K o) : ¬ kx_kinds K (2 : Int32).toNatClampNeg = 2 := h.2.2.2.2.1
theorem SF.mem {K : XK} {o : Nat} (h : SF K o) : (kx_kinds K (0 : Int32).toNatClampNeg = 2 ∨ kx_kinds K (1 : Int32).toNatClampNeg = 2) → XAdr K := h.2.2.2.2.2.1
theorem SF.k12 {K : XK} {o : Nat} (h : SF K o) : (o < 29 ∨ o = 30 ∨ o = 35 ∨ o = 36 ∨ (44 ≤ o ∧ o < 50)) → K12 K 0 := h.2.2.2.2.2.2.1
theorem SF.a10 {K : XK} {o : Nat} (h : SF K o) : (o = 10 ∨ o = 48 ∨ o = 49) → kx_kinds K (1 : Int32).toNatClampNeg = 1 := h.2.2.2.2.2.2.2.1
theorem SF.a11 {K : XK} {o : Nat} (h : SF K o) : o = 11 → kx_kinds K (1 : Int32).toNatClampNeg = 2 := h.2.2.2.2.2.2.2.2.1
theorem SF.a23 {K : XK} {o : Nat} (h : SF K o) : o = 23 → kx_kinds K (2 : Int32).toNatClampNeg = 3 ∨ kx_kinds K (2 : Int32).toNatClampNeg = 0 := h.2.2.2.2.2.2.2.2.2.1
theorem SF.a36 {K : XK} {o : Nat} (h : SF K o) : (o = 36 ∨ o = 46) → kx_kinds K (0 : Int32).toNatClampNeg = 1 := h.2.2.2.2.2.2.2.2.2.2.1
theorem SF.a34 {K : XK} {o : Nat} (h : SF K o) : o = 34 → kx_kinds K (0 : Int32).toNatClampNeg = 3 := h.2.2.2.2.2.2.2.2.2.2.2
theorem mem_adr {K : XK} (h : s_isMemory K = true) : XAdr K := by
  rw [mmx, mm_eq] at h
  unfold MMM at h
  have m1 : (-1 : Int32).toInt = -1 := by decide
  have c16 : (16 : Int32).toInt = 16 := by decide
  have c15 : (15 : Int32).toInt = 15 := by decide
  have c0 : (0 : Int32).toInt = 0 := by decide
  by_cases b1 : kx_base K < -1
  · rw [if_pos b1] at h; cases h
  rw [if_neg b1] at h
  by_cases b2 : 16 < kx_base K
  · rw [if_pos b2] at h; cases h
  rw [if_neg b2] at h
  by_cases b3 : kx_index K < -1
  · rw [if_pos b3] at h; cases h
  rw [if_neg b3] at h
  by_cases b4 : 15 < kx_index K
  · rw [if_pos b4] at h; cases h
  clear h
  rw [Int32.lt_iff_toInt_lt] at b1 b2 b3 b4
  refine ⟨?_, ?_⟩
  · by_cases c : (kx_base K).toInt < 0
    · exact Or.inl (by rw [Int32.lt_iff_toInt_lt]; omega)
    · by_cases c2 : (kx_base K).toInt = 16
      · exact Or.inr (Or.inl (Int32.toInt_inj.mp (c2.trans c16.symm)))
      · exact Or.inr (Or.inr (vp_in_iff.mpr ⟨by omega, by omega⟩))
  · by_cases c : (kx_index K).toInt < 0
    · exact Or.inl (by rw [Int32.lt_iff_toInt_lt]; omega)
    · exact Or.inr (vp_in_iff.mpr ⟨by omega, by omega⟩)
theorem nI_v : ∀ k, k < 4 → ((nI k = 0 ↔ k = 0) ∧ (nI k = 1 ↔ k = 1) ∧ (nI k = 2 ↔ k = 2) ∧ (nI k = 3 ↔ k = 3)) := by decide +kernel
theorem tf_t {p : Prop} [Decidable p] (h : (if p then true else false) = true) : p := by
  by_cases c : p
  · exact c
  · rw [if_neg c] at h; cases h
theorem sf_of {K : XK} (hk : KD K) (h : s_is K = true) : ∃ o, SF K o := by
  rw [sx_form, Bool.and_eq_true, Bool.and_eq_true, Bool.and_eq_true] at h
  obtain ⟨h1, h2, -, h4⟩ := h
  obtain ⟨n, hn, eo⟩ := op_nat h1
  obtain ⟨k0, hk0, e0⟩ := hk (0 : Int32).toNatClampNeg (by decide)
  obtain ⟨k1, hk1, e1⟩ := hk (1 : Int32).toNatClampNeg (by decide)
  obtain ⟨k2, hk2, e2⟩ := hk (2 : Int32).toNatClampNeg (by decide)
  rw [size_x, eo] at h2
  rw [eo, e0, e1, e2] at h4
  have f := fs_all n hn _ _ _ _ h2
  obtain ⟨g1, g2, g3, g4, g5, g6, g7, g8⟩ := ff_all n hn k0 hk0 k1 hk1 k2 hk2 _ _ _ h4
  have v0 := nI_v k0 hk0
  have v1 := nI_v k1 hk1
  have v2 := nI_v k2 hk2
  refine ⟨n, hn, eo, fun q => ?_, fun q => ?_, ?_, fun q => ?_, fun q => ?_, fun q => ?_, fun q => ?_, fun q => ?_, fun q => ?_, fun q => ?_⟩
  · rcases f.1 q with z | z | z
    · exact Or.inl (tf_t z)
    · exact Or.inr (Or.inl (tf_t z))
    · exact Or.inr (Or.inr (tf_t z))
  · rcases f.2 q with z | z
    · exact Or.inl (tf_t z)
    · exact Or.inr (tf_t z)
  · rw [e2]; exact fun q => g1 (v2.2.2.1.mp q)
  · rw [e0, e1] at q
    exact mem_adr (g2 (q.imp v0.2.2.1.mp v1.2.2.1.mp))
  · unfold K12; rw [e0]
    exact (g3 q).imp v0.2.1.mpr v0.2.2.1.mpr
  · rw [e1]; exact v1.2.1.mpr (g4 q)
  · rw [e1]; exact v1.2.2.1.mpr (g5 q)
  · rw [e2]; exact (g6 q).imp v2.2.2.2.mpr v2.1.mpr
  · rw [e0]; exact v0.2.1.mpr (g7 q)
  · rw [e0]; exact v0.2.2.2.mpr (g8 q)
theorem in3 {k : Int32} (h : vp_in k 3) : k.toNatClampNeg = (0 : Int32).toNatClampNeg ∨ k.toNatClampNeg = (1 : Int32).toNatClampNeg ∨ k.toNatClampNeg = (2 : Int32).toNatClampNeg := by
  have := vp_lt h
  have a : (0 : Int32).toNatClampNeg = 0 := by decide
  have b : (1 : Int32).toNatClampNeg = 1 := by decide
  have c : (2 : Int32).toNatClampNeg = 2 := by decide
  omega
theorem sf_adr {K : XK} {o : Nat} (h : SF K o) : ∀ k : Int32, vp_in k 3 → kx_kinds K k.toNatClampNeg = 2 → XAdr K := by
  intro k hk e
  rcases in3 hk with c | c | c
  · rw [c] at e; exact h.mem (Or.inl e)
  · rw [c] at e; exact h.mem (Or.inr e)
  · rw [c] at e; exact absurd e h.k2
theorem lay_x {K : XK} {L : MK} (h : RLay K L) : XLay K := by
  have hb := hb_in (L := L) (by have := h.1; omega) h.1.2.2.2.2.2.2
  obtain ⟨a, b, c, f, g⟩ := h
  unfold XLay
  rw [f, g]
  omega
theorem lay_m {K : XK} {L : MK} (h : RLay K L) : MLay L := by
  obtain ⟨a, b, c, f, g⟩ := h
  unfold MLay
  omega
theorem get_cut (K : XK) (k sz : Int32) (hs : SZ sz) (d : XD) : x_cut (x_get K k sz d).1 sz = (x_get K k sz d).1 := by
  have z : x_cut 0 sz = 0 := by rcases hs with h | h | h <;> subst h <;> decide
  unfold x_get
  by_cases c : kx_kinds K k.toNatClampNeg = 2
  · rw [if_pos c]
    simp only [bnd_app]
    unfold x_fetch
    simp only [bnd_app]
    split
    · split
      · first | exact read_cut hs | exact z
      · first | exact read_cut hs | exact z
    · exact z
  · rw [if_neg c]
    split
    · exact cut_cut _ hs
    · exact cut_cut _ hs
theorem take_cut {K : XK} {L : MK} (d : XD) (hl : RLay K L) (k sz : Int32) (hs : SZ sz) (e : MD) : x_cut (m_take L k sz e).1 sz = (m_take L k sz e).1 := by
  have z : x_cut 0 sz = 0 := by rcases hs with h | h | h <;> subst h <;> decide
  unfold m_take
  rw [bnd_app]
  by_cases c1 : m_kindAt L k = 1
  · rw [if_pos c1]; exact cut_cut _ hs
  · rw [if_neg c1]
    by_cases c2 : m_kindAt L k = 2
    · rw [if_pos c2, bnd_app]
      have hm : RM (dx_bytes_ (fun i => if i < 262144 then dm_memory e i else (if i < 327680 then dm_heap e (i - 262144) else dm_stack e (i - 327680))) (dx_stop_ 0 d)) e := by
        refine ⟨fun i hi => if_pos hi, fun i hi => ?_, fun i hi => ?_⟩
        · show (if 262144 + i < 262144 then dm_memory e (262144 + i) else (if 262144 + i < 327680 then dm_heap e (262144 + i - 262144) else dm_stack e (262144 + i - 327680))) = _
          rw [if_neg (by omega), if_pos (by omega), Nat.add_sub_cancel_left]
        · show (if 327680 + i < 262144 then dm_memory e (327680 + i) else (if 327680 + i < 327680 then dm_heap e (327680 + i - 262144) else dm_stack e (327680 + i - 327680))) = _
          rw [if_neg (by omega), if_neg (by omega), Nat.add_sub_cancel_left]
      rcases fetch_load hl hm rfl (dm_operandAt e) sz with ⟨-, q⟩ | ⟨-, q⟩
      · rw [q]; exact read_cut hs
      · rw [q]; exact z
    · rw [if_neg c2]; exact cut_cut _ hs
theorem n24 : ∀ o, o < 54 → ¬ (24 : Int32) ≤ nI o → o < 24 := by decide +kernel
theorem n21 : ∀ o, o < 54 → ¬ (21 : Int32) ≤ nI o → o < 21 := by decide +kernel
theorem n11 : ∀ o, o < 54 → nI o = 11 → o = 11 := by decide +kernel
theorem xok {K : XK} {L : MK} (hl : RLay K L) (hr : XReg K) (hk : KD K) (h : s_is K = true) : XOk K := by
  obtain ⟨o, f⟩ := sf_of hk h
  refine ⟨⟨lay_x hl, hr, sf_adr f⟩, fun q => ?_, fun q => ?_⟩
  · rw [f.eo] at q
    exact f.mem (Or.inr (f.a11 (n11 o f.lt q)))
  · rw [f.eo] at q
    have hs := f.sz (Or.inl (by have := n24 o f.lt q; omega))
    intro d hd
    exact signed_nz hs (get_cut K 0 _ hs d) hd
theorem mreg {K : XK} {L : MK} (hi : RIn K L) (hr : XReg K) : MReg L := by
  intro k hk
  rw [← hi.2.2 _ (vp_lt hk)]; exact hr k hk
theorem madr {K : XK} {L : MK} (hi : RIn K L) (h : XAdr K) : MAdr L := by
  unfold MAdr
  rw [← hi.1.2.2.1]; exact h.2
theorem mok {K : XK} {L : MK} (d : XD) (hi : RIn K L) (hl : RLay K L) (hr : XReg K) (hk : KD K) (h : m_isSound L = true) : MOk L := by
  rw [← sound_eq hi hk] at h
  obtain ⟨o, f⟩ := sf_of hk h
  refine ⟨⟨lay_m hl, mreg hi hr, fun k h3 e => madr hi (sf_adr f k h3 (by rw [hi.2.1 _ (vp_lt h3)]; exact e))⟩, fun q => ?_, fun q => ?_⟩
  · rw [← hi.1.1.1, f.eo] at q
    exact madr hi (f.mem (Or.inr (f.a11 (n11 o f.lt q))))
  · rw [← hi.1.1.1, f.eo] at q
    have hs := f.sz (Or.inl (by have := n21 o f.lt q; omega))
    rw [hi.1.1.2.1] at hs
    intro e he
    rw [signed_eq]
    exact signed_nz hs (take_cut d hl 0 _ hs e) he
