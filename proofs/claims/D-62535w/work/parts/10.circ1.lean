/-! CIRCUIT, part 1: its picture, its arrays, clauses -/
abbrev AR : Type := Nat × Nat × (Nat → Nat)
/-- literals starts clauseOf nextOf places first second chain heads, used clauses variables -/
abbrev CT : Type := AR × AR × AR × AR × AR × AR × AR × AR × AR × Nat × Nat × Nat
def circW (b : BK) (h : Nat) : CT → va_W
  | ((a0, n0, f0), (a1, n1, f1), (a2, n2, f2), (a3, n3, f3), (a4, n4, f4), (a5, n5, f5), (a6, n6, f6), (a7, n7, f7), (a8, n8, f8), u, k, v) => [cO h 2 [.ref a0, .ref a1, .int (nI u), .int (nI k), .int (nI v), .ref a2, .ref a3, .ref a4, .ref a5, .ref a6, .ref a7, .ref a8], cN b a0 n0 f0, cN b a1 n1 f1, cN b a2 n2 f2, cN b a3 n3 f3, cN b a4 n4 f4, cN b a5 n5 f5, cN b a6 n6 f6, cN b a7 n7 f7, cN b a8 n8 f8]
def cU (C : CT) : Nat := C.2.2.2.2.2.2.2.2.2.1
def cK (C : CT) : Nat := C.2.2.2.2.2.2.2.2.2.2.1
def cV (C : CT) : Nat := C.2.2.2.2.2.2.2.2.2.2.2
def fL (C : CT) : Nat → Nat := C.1.2.2
def fS (C : CT) : Nat → Nat := C.2.1.2.2
def fC (C : CT) : Nat → Nat := C.2.2.1.2.2
def fN (C : CT) : Nat → Nat := C.2.2.2.1.2.2
/-- the first place of a literal, plus 1; 0 beyond the array -/
def fP (C : CT) (a : Nat) : Nat := if a < C.2.2.2.2.1.2.1 then C.2.2.2.2.1.2.2 a else 0
def fF (C : CT) : Nat → Nat := C.2.2.2.2.2.1.2.2
def fG (C : CT) : Nat → Nat := C.2.2.2.2.2.2.1.2.2
def fH (C : CT) : Nat → Nat := C.2.2.2.2.2.2.2.1.2.2
def fD (C : CT) : Nat → Nat := C.2.2.2.2.2.2.2.2.1.2.2
def lL (C : CT) : Nat := C.1.2.1
def lS (C : CT) : Nat := C.2.1.2.1
def lP (C : CT) : Nat := C.2.2.2.2.1.2.1
def lF (C : CT) : Nat := C.2.2.2.2.2.1.2.1
/-- n doubles up to M -/
def Pw (n M : Nat) : Prop := ∃ k : Nat, n * 2 ^ k = M
theorem Pw.le {n M : Nat} (h : Pw n M) : n ≤ M := by
  obtain ⟨k, rfl⟩ := h
  exact Nat.le_mul_of_pos_right n (Nat.two_pow_pos k)
theorem Pw.dbl {n M : Nat} (h : Pw n M) (hn : n < M) : Pw (2 * n) M := by
  obtain ⟨k, rfl⟩ := h
  cases k with
  | zero => simp at hn
  | succ k => exact ⟨k, by rw [Nat.pow_succ, Nat.mul_comm 2 n, Nat.mul_assoc, Nat.mul_comm 2]⟩
theorem Pw.le2 {n M : Nat} (h : Pw n M) (hn : n < M) : 2 * n ≤ M := (h.dbl hn).le
def cLen (C : CT) : Prop := lL C = C.2.2.1.2.1 ∧ lL C = C.2.2.2.1.2.1 ∧ lF C = C.2.2.2.2.2.2.1.2.1 ∧ lF C = C.2.2.2.2.2.2.2.1.2.1 ∧ 257 = C.2.2.2.2.2.2.2.2.1.2.1 ∧ Pw (lL C) 524288 ∧ Pw (lS C) 262144 ∧ Pw (lP C) 131072 ∧ Pw (lF C) 65536 ∧ 1024 ≤ lL C ∧ 512 ≤ lS C ∧ 512 ≤ lP C ∧ 256 ≤ lF C
/-- the potential: twice all capacities that grow -/
def cPhi (C : CT) : Nat := 2 * (3 * lL C + lS C + lP C + 3 * lF C)
def cBud (B1 B2 : Nat) (C : CT) (sz sl : Nat) : Prop := sl + 4325376 ≤ B1 + cPhi C ∧ 256 * sz + 4325376 ≤ 256 * B2 + cPhi C
/-- the last place + 1 below n at which f holds a; 0 when there is none -/
def prv (f : Nat → Nat) (a : Nat) : Nat → Nat
  | 0 => 0
  | n + 1 => if f n = a then n + 1 else prv f a n
theorem prv_congr {f g : Nat → Nat} {a : Nat} : ∀ {n : Nat}, (∀ j, j < n → f j = g j) → prv f a n = prv g a n
  | 0, _ => rfl
  | n + 1, h => by
    simp only [prv]
    rw [h n (by omega), prv_congr (n := n) (fun j hj => h j (by omega))]
theorem prv_le (f : Nat → Nat) (a : Nat) : ∀ n : Nat, prv f a n ≤ n
  | 0 => Nat.le_refl _
  | n + 1 => by
    simp only [prv]
    split
    · exact Nat.le_refl _
    · exact Nat.le_succ_of_le (prv_le f a n)
theorem prv_at (f : Nat → Nat) (a : Nat) : ∀ n : Nat, 0 < prv f a n → f (prv f a n - 1) = a
  | 0, h => absurd h (by simp [prv])
  | n + 1, h => by
    simp only [prv] at h ⊢
    by_cases e : f n = a
    · rw [if_pos e]
      exact e
    · rw [if_neg e] at h ⊢
      exact prv_at f a n h
theorem prv_none (f : Nat → Nat) (a : Nat) : ∀ n j : Nat, prv f a n ≤ j → j < n → f j ≠ a
  | 0, _, _, h => absurd h (by omega)
  | n + 1, j, h1, h2 => by
    simp only [prv] at h1
    by_cases e : f n = a
    · rw [if_pos e] at h1
      omega
    · rw [if_neg e] at h1
      by_cases hj : j = n
      · rw [hj]
        exact e
      · exact prv_none f a n j h1 (by omega)
/-- the places of the literals up to U -/
def Occ (U : Nat) (C : CT) : Prop := (∀ a, fP C a = prv (fL C) a U) ∧ ∀ j, j < U → fN C j = prv (fL C) (fL C j) j
/-- all but the clauses' arrays as it was -/
def SameG (C C' : CT) : Prop := cV C' = cV C ∧ fF C' = fF C ∧ fG C' = fG C ∧ fH C' = fH C ∧ fD C' = fD C ∧ lF C' = lF C
set_option maxHeartbeats 4000000 in
set_option maxRecDepth 100000 in
/-- a row twice as long, the same in its first half -/
theorem c_longer (l : Launch) (b : BK) (BC BS sz sl : Nat) (a n : Nat) (f : Nat → Nat) (hn : n ≤ 524288) (h1 : sz + 1 ≤ BC) (h2 : sl + 2 * n ≤ BS) : Con l b y_Circuit_longer b_Circuit_longer 2 (some (.array .int)) 1 30 BC BS sz sl [.ref a] [[cN b a n f]] (S := (Nat → Nat)) (fun r sz' sl' g => r = some (.ref sz) ∧ sz' = sz + 1 ∧ sl' = sl + 2 * n ∧ ∀ j, g j = if j < n then f j else 0) (fun g => [[cN b a n f], [cN b sz (2 * n) g]]) := by
  refine con_of (L0 := [(0, .ref a)]) (by decide) (Nat.le_of_ble_eq_true rfl) rfl ?_
  intro p e R s m args below meth c Q A H lo X hini hw RT
  have X : Ctx p R s m args meth c b_Circuit_longer 2 "LoopProver$Circuit" b BC BS sl 1 30 := X
  have hw : Wd b BC BS sl s A [[cN b a n f]] sz sl H lo := hw
  refine r_iconst (v := nI 2) X (dat D_Circuit_longer 0 rfl) rfl ?_
  refine r_aldn X (dat D_Circuit_longer 1 rfl) rfl 0 rfl ?_
  refine r_alen X hw (dat D_Circuit_longer 2 rfl) 0 0 0 rfl rfl rfl ?_
  refine r_imul (z := nI (2 * n)) X (dat D_Circuit_longer 3 rfl) (pk_mul _ _) ?_
  refine r_newN X hw ac_int (dat D_Circuit_longer 4 rfl) (by omega) (by omega) (by omega) (fun H hw => ?_)
  have hw : Wd b BC BS sl s A [[cN b a n f], [cN b sz (2 * n) (fun _ => 0)]] (sz + 1) (sl + (2 * n)) H lo := hw
  refine r_astn (L' := [(1, .ref sz), (0, .ref a)]) X (dat D_Circuit_longer 5 rfl) rfl (by decide) rfl ?_
  refine r_aldn X (dat D_Circuit_longer 6 rfl) rfl 1 rfl ?_
  refine r_iconst (v := nI 0) X (dat D_Circuit_longer 7 rfl) rfl ?_
  refine r_aldn X (dat D_Circuit_longer 8 rfl) rfl 0 rfl ?_
  refine r_iconst (v := nI 0) X (dat D_Circuit_longer 9 rfl) rfl ?_
  refine r_aldn X (dat D_Circuit_longer 10 rfl) rfl 1 rfl ?_
  refine r_alen X hw (dat D_Circuit_longer 11 rfl) 0 0 0 rfl rfl rfl ?_
  refine r_copyN (Ws' := [[cN b a n f], [cN b sz (2 * n) (va_cpy f (fun _ => 0) 0 0 n)]]) X hw m_Circuit_70 (dat D_Circuit_longer 12 rfl) 0 0 1 0 rfl rfl rfl rfl (by omega) (by omega) (by omega) (by omega) (by omega) (by decide) (by decide) rfl (fun H lo hw => ?_)
  refine r_aldn X (dat D_Circuit_longer 13 rfl) rfl 0 rfl ?_
  exact r_aret RT (Or.inr ⟨_, rfl⟩) (Or.inr ⟨_, rfl⟩) (dat D_Circuit_longer 14 rfl) (va_cpy f (fun _ => 0) 0 0 n) ⟨rfl, rfl, by omega, fun j => by
    by_cases h : j < n
    · rw [if_pos h]; exact cpy_in h
    · rw [if_neg h]; exact cpy_out (by omega)⟩ hw
set_option maxHeartbeats 4000000 in
set_option maxRecDepth 100000 in
/-- room for one more literal -/
theorem c_room (l : Launch) (b : BK) (BC BS sz sl : Nat) (h : Nat) (C : CT) (B1 B2 : Nat) (hB1 : B1 ≤ BS) (hB2 : B2 ≤ BC) (hlen : cLen C) (hb : cBud B1 B2 C sz sl) (hu : cU C ≤ lL C) (hu2 : cU C < 524288) : Con l b y_Circuit_room b_Circuit_room 1 none 2 60 BC BS sz sl [.ref h] [circW b h C] (S := CT) (fun r sz' sl' C' => r = none ∧ cLen C' ∧ cBud B1 B2 C' sz' sl' ∧ cU C' < lL C' ∧ cU C' = cU C ∧ cK C' = cK C ∧ (∀ j, j < cU C → fL C' j = fL C j ∧ fC C' j = fC C j ∧ fN C' j = fN C j) ∧ fS C' = fS C ∧ lS C' = lS C ∧ (∀ a, fP C' a = fP C a) ∧ SameG C C') (fun C' => [circW b h C']) := by
  obtain ⟨⟨a0, n0, f0⟩, ⟨a1, n1, f1⟩, ⟨a2, n2, f2⟩, ⟨a3, n3, f3⟩, ⟨a4, n4, f4⟩, ⟨a5, n5, f5⟩, ⟨a6, n6, f6⟩, ⟨a7, n7, f7⟩, ⟨a8, n8, f8⟩, u, k, v⟩ := C
  dsimp only [cU, cK, cV, fL, fS, fC, fN, fP, fF, fG, fH, fD, lL, lS, lP, lF, cLen, cPhi, cBud, SameG] at hlen hb hu hu2
  obtain ⟨rfl, rfl, rfl, rfl, rfl, p0, p1, p4, p5, g0, g1, g4, g5⟩ := hlen
  have q0 := p0.le
  have q1 := p1.le
  have q4 := p4.le
  have q5 := p5.le
  refine con_of (L0 := [(0, .ref h)]) (by decide) (Nat.le_of_ble_eq_true rfl) rfl ?_
  intro p e R s m args below meth c Q A H lo X hini hw RT
  have X : Ctx p R s m args meth c b_Circuit_room 1 "LoopProver$Circuit" b BC BS sl 2 60 := X
  have hw : Wd b BC BS sl s A [[cO h 2 [.ref a0, .ref a1, .int (nI u), .int (nI k), .int (nI v), .ref a2, .ref a3, .ref a4, .ref a5, .ref a6, .ref a7, .ref a8]], [cN b a0 n0 f0], [cN b a1 n1 f1], [cN b a2 n0 f2], [cN b a3 n0 f3], [cN b a4 n4 f4], [cN b a5 n5 f5], [cN b a6 n5 f6], [cN b a7 n5 f7], [cN b a8 257 f8]] sz sl H lo := hw.re rfl
  refine r_aldn X (dat D_Circuit_room 0 rfl) rfl 0 rfl ?_
  refine r_get X hw f_Circuit_39 (dat D_Circuit_room 1 rfl) 0 0 rfl rfl rfl ?_
  refine r_aldn X (dat D_Circuit_room 2 rfl) rfl 0 rfl ?_
  refine r_get X hw f_Circuit_9 (dat D_Circuit_room 3 rfl) 0 0 rfl rfl rfl ?_
  refine r_alen X hw (dat D_Circuit_room 4 rfl) 1 0 0 rfl rfl rfl ?_
  refine r_icmpge (tgt := 13) X (nI_leI (by omega) (by omega)) (dat D_Circuit_room 5 rfl) rfl (fun hc => ?_) (fun hc => ?_)
  · have hn0 : n0 < 524288 := by omega
    have hd := p0.le2 hn0
    refine r_aldn X (dat D_Circuit_room 7 rfl) rfl 0 rfl ?_
    refine r_aldn X (dat D_Circuit_room 8 rfl) rfl 0 rfl ?_
    refine r_get X hw f_Circuit_9 (dat D_Circuit_room 9 rfl) 0 0 rfl rfl rfl ?_
    refine r_callS (NW := 10) (As := [.ref a0]) (st := [.ref h]) X hw m_Circuit_53 (c_longer l b BC BS sz sl a0 n0 f0 (by omega) (by omega) (by omega)) (dat D_Circuit_room 10 rfl) [1] [0, 2, 3, 4, 5, 6, 7, 8, 9] rfl (by decide +kernel) rfl rfl rfl rfl (Nat.le_of_ble_eq_true rfl) ⟨by decide, by decide⟩ (fun r x0 sz_1 sl_1 H lo hp hw => ?_)
    obtain ⟨rfl, rfl, rfl, hx0⟩ := hp
    refine r_st (st' := [.ref sz, .ref h]) rfl ?_
    have hw : Wd b BC BS sl s A [[cN b a0 n0 f0], [cN b sz (2 * n0) x0], [cO h 2 [.ref a0, .ref a1, .int (nI u), .int (nI k), .int (nI v), .ref a2, .ref a3, .ref a4, .ref a5, .ref a6, .ref a7, .ref a8]], [cN b a1 n1 f1], [cN b a2 n0 f2], [cN b a3 n0 f3], [cN b a4 n4 f4], [cN b a5 n5 f5], [cN b a6 n5 f6], [cN b a7 n5 f7], [cN b a8 257 f8]] (sz + 1) (sl + 2 * n0) H lo := hw
    refine r_put (Ws' := [[cN b a0 n0 f0], [cN b sz (2 * n0) x0], [cO h 2 [.ref sz, .ref a1, .int (nI u), .int (nI k), .int (nI v), .ref a2, .ref a3, .ref a4, .ref a5, .ref a6, .ref a7, .ref a8]], [cN b a1 n1 f1], [cN b a2 n0 f2], [cN b a3 n0 f3], [cN b a4 n4 f4], [cN b a5 n5 f5], [cN b a6 n5 f6], [cN b a7 n5 f7], [cN b a8 257 f8]]) X hw f_Circuit_9 (dat D_Circuit_room 11 rfl) 2 0 rfl rfl rfl rfl rfl (Nat.le_of_ble_eq_true rfl) rfl (fun H lo hw => ?_)
    refine r_aldn X (dat D_Circuit_room 12 rfl) rfl 0 rfl ?_
    refine r_aldn X (dat D_Circuit_room 13 rfl) rfl 0 rfl ?_
    refine r_get X hw f_Circuit_18 (dat D_Circuit_room 14 rfl) 2 0 rfl rfl rfl ?_
    refine r_callS (NW := 11) (As := [.ref a2]) (st := [.ref h]) X hw m_Circuit_53 (c_longer l b BC BS (sz + 1) (sl + 2 * n0) a2 n0 f2 (by omega) (by omega) (by omega)) (dat D_Circuit_room 15 rfl) [4] [0, 1, 2, 3, 5, 6, 7, 8, 9, 10] rfl (by decide +kernel) rfl rfl rfl rfl (Nat.le_of_ble_eq_true rfl) ⟨by decide, by decide⟩ (fun r x2 sz_2 sl_2 H lo hp hw => ?_)
    obtain ⟨rfl, rfl, rfl, hx2⟩ := hp
    refine r_st (st' := [.ref (sz + 1), .ref h]) rfl ?_
    have hw : Wd b BC BS sl s A [[cN b a2 n0 f2], [cN b (sz + 1) (2 * n0) x2], [cN b a0 n0 f0], [cN b sz (2 * n0) x0], [cO h 2 [.ref sz, .ref a1, .int (nI u), .int (nI k), .int (nI v), .ref a2, .ref a3, .ref a4, .ref a5, .ref a6, .ref a7, .ref a8]], [cN b a1 n1 f1], [cN b a3 n0 f3], [cN b a4 n4 f4], [cN b a5 n5 f5], [cN b a6 n5 f6], [cN b a7 n5 f7], [cN b a8 257 f8]] (sz + 1 + 1) (sl + 2 * n0 + 2 * n0) H lo := hw
    refine r_put (Ws' := [[cN b a2 n0 f2], [cN b (sz + 1) (2 * n0) x2], [cN b a0 n0 f0], [cN b sz (2 * n0) x0], [cO h 2 [.ref sz, .ref a1, .int (nI u), .int (nI k), .int (nI v), .ref (sz + 1), .ref a3, .ref a4, .ref a5, .ref a6, .ref a7, .ref a8]], [cN b a1 n1 f1], [cN b a3 n0 f3], [cN b a4 n4 f4], [cN b a5 n5 f5], [cN b a6 n5 f6], [cN b a7 n5 f7], [cN b a8 257 f8]]) X hw f_Circuit_18 (dat D_Circuit_room 16 rfl) 4 0 rfl rfl rfl rfl rfl (Nat.le_of_ble_eq_true rfl) rfl (fun H lo hw => ?_)
    refine r_aldn X (dat D_Circuit_room 17 rfl) rfl 0 rfl ?_
    refine r_aldn X (dat D_Circuit_room 18 rfl) rfl 0 rfl ?_
    refine r_get X hw f_Circuit_21 (dat D_Circuit_room 19 rfl) 4 0 rfl rfl rfl ?_
    refine r_callS (NW := 12) (As := [.ref a3]) (st := [.ref h]) X hw m_Circuit_53 (c_longer l b BC BS (sz + 1 + 1) (sl + 2 * n0 + 2 * n0) a3 n0 f3 (by omega) (by omega) (by omega)) (dat D_Circuit_room 20 rfl) [6] [0, 1, 2, 3, 4, 5, 7, 8, 9, 10, 11] rfl (by decide +kernel) rfl rfl rfl rfl (Nat.le_of_ble_eq_true rfl) ⟨by decide, by decide⟩ (fun r x3 sz_3 sl_3 H lo hp hw => ?_)
    obtain ⟨rfl, rfl, rfl, hx3⟩ := hp
    refine r_st (st' := [.ref (sz + 1 + 1), .ref h]) rfl ?_
    have hw : Wd b BC BS sl s A [[cN b a3 n0 f3], [cN b (sz + 1 + 1) (2 * n0) x3], [cN b a2 n0 f2], [cN b (sz + 1) (2 * n0) x2], [cN b a0 n0 f0], [cN b sz (2 * n0) x0], [cO h 2 [.ref sz, .ref a1, .int (nI u), .int (nI k), .int (nI v), .ref (sz + 1), .ref a3, .ref a4, .ref a5, .ref a6, .ref a7, .ref a8]], [cN b a1 n1 f1], [cN b a4 n4 f4], [cN b a5 n5 f5], [cN b a6 n5 f6], [cN b a7 n5 f7], [cN b a8 257 f8]] (sz + 1 + 1 + 1) (sl + 2 * n0 + 2 * n0 + 2 * n0) H lo := hw
    refine r_put (Ws' := [[cN b a3 n0 f3], [cN b (sz + 1 + 1) (2 * n0) x3], [cN b a2 n0 f2], [cN b (sz + 1) (2 * n0) x2], [cN b a0 n0 f0], [cN b sz (2 * n0) x0], [cO h 2 [.ref sz, .ref a1, .int (nI u), .int (nI k), .int (nI v), .ref (sz + 1), .ref (sz + 1 + 1), .ref a4, .ref a5, .ref a6, .ref a7, .ref a8]], [cN b a1 n1 f1], [cN b a4 n4 f4], [cN b a5 n5 f5], [cN b a6 n5 f6], [cN b a7 n5 f7], [cN b a8 257 f8]]) X hw f_Circuit_21 (dat D_Circuit_room 21 rfl) 6 0 rfl rfl rfl rfl rfl (Nat.le_of_ble_eq_true rfl) rfl (fun H lo hw => ?_)
    refine r_vret RT (dat D_Circuit_room 22 rfl) ((sz, 2 * n0, x0), (a1, n1, f1), (sz + 1, 2 * n0, x2), (sz + 1 + 1, 2 * n0, x3), (a4, n4, f4), (a5, n5, f5), (a6, n5, f6), (a7, n5, f7), (a8, 257, f8), u, k, v) ⟨rfl, ⟨rfl, rfl, rfl, rfl, rfl, p0.dbl hn0, p1, p4, p5, ?_, g1, g4, g5⟩, ⟨?_, ?_⟩, ?_, rfl, rfl, ?_, rfl, rfl, fun _ => rfl, rfl, rfl, rfl, rfl, rfl, rfl⟩ ((hw.pick (NW := 13) (Ws' := [[cO h 2 [.ref sz, .ref a1, .int (nI u), .int (nI k), .int (nI v), .ref (sz + 1), .ref (sz + 1 + 1), .ref a4, .ref a5, .ref a6, .ref a7, .ref a8]], [cN b sz (2 * n0) x0], [cN b a1 n1 f1], [cN b (sz + 1) (2 * n0) x2], [cN b (sz + 1 + 1) (2 * n0) x3], [cN b a4 n4 f4], [cN b a5 n5 f5], [cN b a6 n5 f6], [cN b a7 n5 f7], [cN b a8 257 f8]]) [6, 5, 7, 3, 1, 8, 9, 10, 11, 12] [0, 2, 4] rfl (by decide +kernel) rfl).re rfl)
    all_goals dsimp only [cU, cK, cV, fL, fS, fC, fN, fP, fF, fG, fH, fD, lL, lS, lP, lF, cLen, cPhi, cBud, SameG]
    · omega
    · omega
    · omega
    · omega
    · intro j hj
      rw [hx0, hx2, hx3]
      simp only [if_pos (show j < n0 by omega)]
      exact ⟨trivial, trivial, trivial⟩
  · exact r_vret RT (dat D_Circuit_room 6 rfl) ((a0, n0, f0), (a1, n1, f1), (a2, n0, f2), (a3, n0, f3), (a4, n4, f4), (a5, n5, f5), (a6, n5, f6), (a7, n5, f7), (a8, 257, f8), u, k, v) ⟨rfl, ⟨rfl, rfl, rfl, rfl, rfl, p0, p1, p4, p5, g0, g1, g4, g5⟩, hb, Nat.not_le.mp hc, rfl, rfl, fun _ _ => ⟨rfl, rfl, rfl⟩, rfl, rfl, fun _ => rfl, rfl, rfl, rfl, rfl, rfl, rfl⟩ ((hw.pick (NW := 10) (Ws' := [[cO h 2 [.ref a0, .ref a1, .int (nI u), .int (nI k), .int (nI v), .ref a2, .ref a3, .ref a4, .ref a5, .ref a6, .ref a7, .ref a8]], [cN b a0 n0 f0], [cN b a1 n1 f1], [cN b a2 n0 f2], [cN b a3 n0 f3], [cN b a4 n4 f4], [cN b a5 n5 f5], [cN b a6 n5 f6], [cN b a7 n5 f7], [cN b a8 257 f8]]) [0, 1, 2, 3, 4, 5, 6, 7, 8, 9] [] rfl (by decide +kernel) rfl).re rfl)
