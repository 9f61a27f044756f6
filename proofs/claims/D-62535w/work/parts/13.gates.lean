/-! GATES: what the literals of a circuit say; pure -/
def lv (x : Nat → Bool) (a : Nat) : Bool := if a % 2 = 0 then x (a / 2) else !x (a / 2)
/-- the value of a variable: 0 is true, 1..15 are the inputs, a gate is the meet of its two literals -/
def vv (F G : Nat → Nat) (al : Nat → Bool) (v : Nat) : Bool :=
  if h : 16 ≤ v ∧ F v / 2 < v ∧ G v / 2 < v then
    (if F v % 2 = 0 then vv F G al (F v / 2) else !vv F G al (F v / 2)) && (if G v % 2 = 0 then vv F G al (G v / 2) else !vv F G al (G v / 2))
  else (v == 0 || al v)
termination_by v
decreasing_by all_goals omega
def VL (C : CT) (al : Nat → Bool) (a : Nat) : Bool := lv (vv (fF C) (fG C) al) a
theorem lv_ng (x : Nat → Bool) (a : Nat) : lv x (ng a) = !lv x a := by
  unfold lv ng
  by_cases h : a % 2 = 0
  · rw [if_pos h, if_neg (by omega), if_pos h]
    congr 2
    omega
  · rw [if_neg h, if_pos (by omega), if_neg h]
    rw [show (a - 1) / 2 = a / 2 by omega]
    simp
theorem vv_0 (F G : Nat → Nat) (al : Nat → Bool) : vv F G al 0 = true := by
  rw [vv, dif_neg (by omega)]
  rfl
theorem vv_in (F G : Nat → Nat) (al : Nat → Bool) {v : Nat} (h : v < 16) (h0 : 0 < v) : vv F G al v = al v := by
  rw [vv, dif_neg (by omega)]
  have : (v == 0) = false := by simp; omega
  rw [this, Bool.false_or]
theorem vv_gate {F G : Nat → Nat} (al : Nat → Bool) {g : Nat} (h : 16 ≤ g) (h1 : F g / 2 < g) (h2 : G g / 2 < g) : vv F G al g = (lv (vv F G al) (F g) && lv (vv F G al) (G g)) := by
  rw [vv, dif_pos ⟨h, h1, h2⟩]
  rfl
theorem vv_base {F G : Nat → Nat} (al : Nat → Bool) {v : Nat} (h : ¬ (16 ≤ v ∧ F v / 2 < v ∧ G v / 2 < v)) : vv F G al v = (v == 0 || al v) := by
  rw [vv, dif_neg h]
theorem vv_ext {F G F' G' : Nat → Nat} (al : Nat → Bool) {n : Nat} (h : ∀ g, 16 ≤ g → g < n → F' g = F g ∧ G' g = G g) : ∀ v, v < n → vv F' G' al v = vv F G al v := by
  intro v
  induction v using Nat.strongRecOn with
  | _ v ih =>
    intro hv
    by_cases hc : 16 ≤ v
    · obtain ⟨e1, e2⟩ := h v hc hv
      by_cases hb : F v / 2 < v ∧ G v / 2 < v
      · rw [vv_gate al hc (by rw [e1]; exact hb.1) (by rw [e2]; exact hb.2), vv_gate al hc hb.1 hb.2, e1, e2]
        unfold lv
        rw [ih _ hb.1 (by omega), ih _ hb.2 (by omega)]
      · rw [vv_base al (by rw [e1, e2]; exact fun z => hb z.2), vv_base al (fun z => hb z.2)]
    · rw [vv_base al (fun z => hc z.1), vv_base al (fun z => hc z.1)]
def GOK (V : Nat) (F G : Nat → Nat) : Prop := ∀ g, 16 ≤ g → g < V → 2 ≤ F g ∧ F g < G g ∧ G g < 2 * g ∧ F g / 2 ≠ G g / 2
/-- the literals one behind the other -/
def LAY (F G : Nat → Nat) (j : Nat) : Nat := if j = 0 then 0 else
  if (j - 1) % 7 = 0 then 2 * (16 + (j - 1) / 7) + 1 else if (j - 1) % 7 = 1 then F (16 + (j - 1) / 7) else if (j - 1) % 7 = 2 then 2 * (16 + (j - 1) / 7) + 1 else if (j - 1) % 7 = 3 then G (16 + (j - 1) / 7) else if (j - 1) % 7 = 4 then 2 * (16 + (j - 1) / 7) else if (j - 1) % 7 = 5 then ng (F (16 + (j - 1) / 7)) else ng (G (16 + (j - 1) / 7))
def COF (j : Nat) : Nat := if j = 0 then 0 else 1 + 3 * ((j - 1) / 7) + (if (j - 1) % 7 < 2 then 0 else if (j - 1) % 7 < 4 then 1 else 2)
def STA (k : Nat) : Nat := if k = 0 then 0 else 1 + 7 * ((k - 1) / 3) + 2 * ((k - 1) % 3)
theorem LAY_ext {F G F' G' : Nat → Nat} {g j : Nat} (h : ∀ x, 16 ≤ x → x < g → F' x = F x ∧ G' x = G x) (hj : j < 1 + 7 * (g - 16)) : LAY F' G' j = LAY F G j := by
  unfold LAY
  by_cases h0 : j = 0
  · rw [if_pos h0, if_pos h0]
  · obtain ⟨e1, e2⟩ := h (16 + (j - 1) / 7) (by omega) (by omega)
    rw [e1, e2]
def GateOK (C : CT) : Prop := cLen C ∧ 16 ≤ cV C ∧ cV C ≤ lF C ∧ cU C = 1 + 7 * (cV C - 16) ∧ cK C = 1 + 3 * (cV C - 16) ∧ cU C ≤ lL C ∧ cK C + 1 ≤ lS C ∧ GOK (cV C) (fF C) (fG C) ∧ (∀ j, j < cU C → fL C j = LAY (fF C) (fG C) j ∧ fC C j = COF j) ∧ (∀ k, k ≤ cK C → fS C k = STA k) ∧ (∀ h, h < 257 → fD C h = 0 ∨ 16 ≤ fD C h ∧ fD C h < cV C) ∧ (∀ g, 16 ≤ g → g < cV C → fH C g < g ∧ (fH C g = 0 ∨ 16 ≤ fH C g)) ∧ Occ (cU C) C
/-- C' has C's gates, and perhaps more -/
def Ext (C C' : CT) : Prop := cV C ≤ cV C' ∧ ∀ g, 16 ≤ g → g < cV C → fF C' g = fF C g ∧ fG C' g = fG C g
theorem Ext.refl (C : CT) : Ext C C := ⟨Nat.le_refl _, fun _ _ _ => ⟨rfl, rfl⟩⟩
theorem Ext.trans {C C1 C2 : CT} (h : Ext C C1) (k : Ext C1 C2) : Ext C C2 := ⟨Nat.le_trans h.1 k.1, fun g h1 h2 => by
  obtain ⟨a1, a2⟩ := h.2 g h1 h2
  obtain ⟨b1, b2⟩ := k.2 g h1 (Nat.lt_of_lt_of_le h2 h.1)
  exact ⟨b1.trans a1, b2.trans a2⟩⟩
/-- literal a stands for P -/
def Sem (C : CT) (a : Nat) (P : (Nat → Bool) → Bool) : Prop := a < 2 * cV C ∧ ∀ al, VL C al a = P al
theorem Ext.vl {C C' : CT} (h : Ext C C') (al : Nat → Bool) {a : Nat} (ha : a < 2 * cV C) : VL C' al a = VL C al a := by
  unfold VL lv
  rw [vv_ext al h.2 (a / 2) (by omega)]
theorem Sem.ext {C C' : CT} {a : Nat} {P : (Nat → Bool) → Bool} (h : Ext C C') (k : Sem C a P) : Sem C' a P := by
  have h1 := h.1
  have h2 := k.1
  exact ⟨by omega, fun al => by rw [h.vl al k.1]; exact k.2 al⟩
theorem Sem.ng {C : CT} {a : Nat} {P : (Nat → Bool) → Bool} (k : Sem C a P) : Sem C (ng a) (fun al => !P al) := ⟨ng_lt k.1, fun al => by unfold VL; rw [lv_ng]; congr 1; exact k.2 al⟩
theorem Sem.cong {C : CT} {a : Nat} {P Q : (Nat → Bool) → Bool} (k : Sem C a P) (h : ∀ al, P al = Q al) : Sem C a Q := ⟨k.1, fun al => (k.2 al).trans (h al)⟩
theorem Sem.tt {C : CT} (h : 16 ≤ cV C) : Sem C 0 (fun _ => true) := ⟨by omega, fun al => by
  unfold VL lv
  rw [if_pos (by decide)]
  exact vv_0 _ _ _⟩
theorem Sem.ff {C : CT} (h : 16 ≤ cV C) : Sem C 1 (fun _ => false) := ⟨by omega, fun al => by
  unfold VL lv
  rw [if_neg (by decide), show 1 / 2 = 0 from rfl, vv_0]
  rfl⟩
theorem Sem.inp {C : CT} {v : Nat} (h : 16 ≤ cV C) (h0 : 0 < v) (h1 : v < 16) : Sem C (2 * v) (fun al => al v) := ⟨by omega, fun al => by
  unfold VL lv
  rw [if_pos (by omega), show 2 * v / 2 = v by omega]
  exact vv_in _ _ _ h1 h0⟩
theorem VL_gate {C : CT} (h : GOK (cV C) (fF C) (fG C)) {g : Nat} (h1 : 16 ≤ g) (h2 : g < cV C) (al : Nat → Bool) : VL C al (2 * g) = (VL C al (fF C g) && VL C al (fG C g)) := by
  obtain ⟨a1, a2, a3, a4⟩ := h g h1 h2
  have e : VL C al (2 * g) = vv (fF C) (fG C) al g := by
    unfold VL lv
    rw [if_pos (by omega), show 2 * g / 2 = g by omega]
  rw [e]
  exact vv_gate al h1 (by omega) (by omega)
/-- a new gate -/
theorem gate_new {C C1 C2 C3 C4 : CT} {g p q hh : Nat} (h : GateOK C) (hg : cV C = g) (hp : 2 ≤ p) (hpq : p < q) (hq : q < 2 * g) (hne : p / 2 ≠ q / 2) (hh7 : hh < 257) (l1 : cV C1 = g + 1) (l2 : cU C1 = cU C) (l3 : cK C1 = cK C) (l4 : ∀ j, j < cU C → fL C1 j = fL C j ∧ fC C1 j = fC C j) (l5 : ∀ k, k ≤ cK C → fS C1 k = fS C k)
    (l6 : ∀ x, 16 ≤ x → x < g → fF C1 x = fF C x ∧ fG C1 x = fG C x ∧ fH C1 x = fH C x) (l7 : fF C1 g = p ∧ fG C1 g = q ∧ fH C1 g = fD C hh) (l8 : ∀ j, j < 257 → fD C1 j = if j = hh then g else fD C j) (l9 : g + 1 ≤ lF C1)
    (r1 : AddR [2 * g + 1, p] C1 C2) (r2 : AddR [2 * g + 1, q] C2 C3) (r3 : AddR [2 * g, ng p, ng q] C3 C4) (c1 : cLen C4) (c2 : cU C4 ≤ lL C4) (c3 : cK C4 + 1 ≤ lS C4) (c4 : Occ (cU C4) C4) : GateOK C4 ∧ Ext C C4 ∧ cV C4 = g + 1 ∧ fF C4 g = p ∧ fG C4 g = q := by
  obtain ⟨h1, h2, h3, h4, h5, h6, h7, h8, h9, h10, h11, h12, h13⟩ := h
  obtain ⟨a1, a2, a3, a4, a5, a6, a7, a8⟩ := r1
  obtain ⟨b1, b2, b3, b4, b5, b6, b7, b8⟩ := r2
  obtain ⟨d1, d2, d3, d4, d5, d6, d7, d8⟩ := r3
  have hs := (a8.trans b8).trans d8
  obtain ⟨s1, s2, s3, s4, s5, s6⟩ := hs
  simp only [List.length_cons, List.length_nil] at a1 b1 d1 a4 b4 d4
  have eF : ∀ x, 16 ≤ x → x < g → fF C4 x = fF C x ∧ fG C4 x = fG C x := fun x hx1 hx2 => by
    rw [s2, s3]
    exact ⟨(l6 x hx1 hx2).1, (l6 x hx1 hx2).2.1⟩
  have fg : fF C4 g = p := by rw [s2]; exact l7.1
  have gg : fG C4 g = q := by rw [s3]; exact l7.2.1
  have u4 : cU C4 = 1 + 7 * (g + 1 - 16) := by omega
  have u1 : cU C1 = 1 + 7 * (g - 16) := by omega
  have k4 : cK C4 = 1 + 3 * (g + 1 - 16) := by omega
  have v4 : cV C4 = g + 1 := by rw [s1]; exact l1
  refine ⟨⟨c1, by omega, by omega, by omega, by omega, c2, c3, ?_, ?_, ?_, ?_, ?_, c4⟩, ⟨by omega, fun x hx1 hx2 => eF x hx1 (by omega)⟩, v4, fg, gg⟩
  · intro x hx1 hx2
    by_cases e : x = g
    · subst e
      rw [fg, gg]
      exact ⟨hp, hpq, hq, hne⟩
    · rw [(eF x hx1 (by omega)).1, (eF x hx1 (by omega)).2]
      exact h8 x hx1 (by omega)
  · intro j hj
    by_cases e : j < cU C
    · have e3 := d3 j (by omega)
      have e2 := b3 j (by omega)
      have e1 := a3 j (by omega)
      have e0 := l4 j e
      have e9 := h9 j e
      rw [LAY_ext (fun x hx1 hx2 => eF x hx1 hx2) (by omega)]
      exact ⟨e3.1.trans (e2.1.trans (e1.1.trans (e0.1.trans e9.1))), e3.2.trans (e2.2.trans (e1.2.trans (e0.2.trans e9.2)))⟩
    · obtain ⟨i, hi⟩ : ∃ i, j = cU C1 + i := ⟨j - cU C1, by omega⟩
      subst hi
      have m1 : (cU C1 + i - 1) / 7 = g - 16 := by omega
      have m2 : (cU C1 + i - 1) % 7 = i := by omega
      have m3 : 16 + (g - 16) = g := by omega
      have hz : ¬ cU C1 + i = 0 := by omega
      unfold LAY COF
      rw [if_neg hz, if_neg hz, m1, m2, m3, fg, gg]
      have hi7 : i < 7 := by omega
      rcases (show i < 2 ∨ (2 ≤ i ∧ i < 4) ∨ 4 ≤ i by omega) with hi2 | hi4 | hi6
      · have e3 := d3 (cU C1 + i) (by omega)
        have e2 := b3 (cU C1 + i) (by omega)
        have e1 := a4 i (by omega)
        rw [e3.1, e2.1, e1.1, e3.2, e2.2, e1.2]
        rcases (show i = 0 ∨ i = 1 by omega) with rfl | rfl
        · refine ⟨rfl, ?_⟩
          simp only [show (0 : Nat) < 2 from by decide, if_true]
          omega
        · refine ⟨rfl, ?_⟩
          simp only [show (1 : Nat) < 2 from by decide, if_true]
          omega
      · have e3 := d3 (cU C1 + i) (by omega)
        obtain ⟨i2, rfl⟩ : ∃ i2, i = 2 + i2 := ⟨i - 2, by omega⟩
        have e2 := b4 i2 (by omega)
        rw [show cU C2 + i2 = cU C1 + (2 + i2) by omega] at e2
        rw [e3.1, e2.1, e3.2, e2.2]
        rcases (show i2 = 0 ∨ i2 = 1 by omega) with rfl | rfl
        · refine ⟨rfl, ?_⟩
          rw [if_neg (by omega), if_pos (by omega)]
          omega
        · refine ⟨rfl, ?_⟩
          rw [if_neg (by omega), if_pos (by omega)]
          omega
      · obtain ⟨i2, rfl⟩ : ∃ i2, i = 4 + i2 := ⟨i - 4, by omega⟩
        have e3 := d4 i2 (by omega)
        rw [show cU C3 + i2 = cU C1 + (4 + i2) by omega] at e3
        rw [e3.1, e3.2]
        rcases (show i2 = 0 ∨ i2 = 1 ∨ i2 = 2 by omega) with rfl | rfl | rfl
        · refine ⟨rfl, ?_⟩
          rw [if_neg (by omega), if_neg (by omega)]
          omega
        · refine ⟨rfl, ?_⟩
          rw [if_neg (by omega), if_neg (by omega)]
          omega
        · refine ⟨rfl, ?_⟩
          rw [if_neg (by omega), if_neg (by omega)]
          omega
  · intro k hk
    have hS1 : ∀ k, k ≤ cK C → fS C4 k = STA k := fun k hk => by
      by_cases e : k < cK C
      · rw [d5 k (by omega), b5 k (by omega), a5 k (by omega), l5 k (by omega)]
        exact h10 k (by omega)
      · have e2 : k = cK C1 := by omega
        rw [d5 k (by omega), b5 k (by omega), e2, a6, ← h10 (cK C1) (by omega), ← l5 (cK C1) (by omega)]
        have := l5 (cK C1) (by omega)
        rw [this, h10 (cK C1) (by omega)]
        unfold STA
        rw [if_neg (by omega)]
        omega
    by_cases e : k ≤ cK C
    · exact hS1 k e
    · unfold STA
      rw [if_neg (by omega)]
      rcases (show k = cK C2 ∨ k = cK C3 ∨ k = cK C4 by omega) with rfl | rfl | rfl
      · rw [d5 _ (by omega), b6]
        omega
      · rw [d6]
        omega
      · rw [d2, d7]
        omega
  · intro x hx
    rw [s5, l8 x hx]
    by_cases e : x = hh
    · rw [if_pos e]
      omega
    · rw [if_neg e]
      have := h11 x hx
      omega
  · intro x hx1 hx2
    rw [s4]
    by_cases e : x = g
    · subst e
      rw [l7.2.2]
      have := h11 hh hh7
      omega
    · rw [(l6 x hx1 (by omega)).2.2]
      exact h12 x hx1 (by omega)
