/-! CIRCUIT, part 1: its picture, its arrays, clauses -/
abbrev AR : Type := Nat × Nat × (Nat → Nat)
/-- literals starts clauseOf nextOf places first second chain heads, used clauses variables -/
abbrev CT : Type := AR × AR × AR × AR × AR × AR × AR × AR × AR × Nat × Nat × Nat
def circW (b : BK) (h : Nat) (C : CT) : va_W := [cO h 2 [.ref C.1.1, .ref C.2.1.1, .int (nI C.2.2.2.2.2.2.2.2.2.1), .int (nI C.2.2.2.2.2.2.2.2.2.2.1), .int (nI C.2.2.2.2.2.2.2.2.2.2.2), .ref C.2.2.1.1, .ref C.2.2.2.1.1, .ref C.2.2.2.2.1.1, .ref C.2.2.2.2.2.1.1, .ref C.2.2.2.2.2.2.1.1, .ref C.2.2.2.2.2.2.2.1.1, .ref C.2.2.2.2.2.2.2.2.1.1],
  cN b C.1.1 C.1.2.1 C.1.2.2, cN b C.2.1.1 C.2.1.2.1 C.2.1.2.2, cN b C.2.2.1.1 C.2.2.1.2.1 C.2.2.1.2.2, cN b C.2.2.2.1.1 C.2.2.2.1.2.1 C.2.2.2.1.2.2, cN b C.2.2.2.2.1.1 C.2.2.2.2.1.2.1 C.2.2.2.2.1.2.2, cN b C.2.2.2.2.2.1.1 C.2.2.2.2.2.1.2.1 C.2.2.2.2.2.1.2.2, cN b C.2.2.2.2.2.2.1.1 C.2.2.2.2.2.2.1.2.1 C.2.2.2.2.2.2.1.2.2, cN b C.2.2.2.2.2.2.2.1.1 C.2.2.2.2.2.2.2.1.2.1 C.2.2.2.2.2.2.2.1.2.2, cN b C.2.2.2.2.2.2.2.2.1.1 C.2.2.2.2.2.2.2.2.1.2.1 C.2.2.2.2.2.2.2.2.1.2.2]
def cU (C : CT) : Nat := C.2.2.2.2.2.2.2.2.2.1
def cK (C : CT) : Nat := C.2.2.2.2.2.2.2.2.2.2.1
def cV (C : CT) : Nat := C.2.2.2.2.2.2.2.2.2.2.2
def fL (C : CT) : Nat → Nat := C.1.2.2
def fS (C : CT) : Nat → Nat := C.2.1.2.2
def fC (C : CT) : Nat → Nat := C.2.2.1.2.2
def fN (C : CT) : Nat → Nat := C.2.2.2.1.2.2
/-- the first place of a literal, plus 1; 0 beyond the array -/
def fP (C : CT) (a : Nat) : Nat := if a < C.2.2.2.2.1.2.1 then C.2.2.2.2.1.2.2 a else 0
def fF (C : CT) : Nat → Nat := C.2.2.2.2.2.1.2.2
def fG (C : CT) : Nat → Nat := C.2.2.2.2.2.2.1.2.2
def fH (C : CT) : Nat → Nat := C.2.2.2.2.2.2.2.1.2.2
def fD (C : CT) : Nat → Nat := C.2.2.2.2.2.2.2.2.1.2.2
def lL (C : CT) : Nat := C.1.2.1
def lS (C : CT) : Nat := C.2.1.2.1
def lP (C : CT) : Nat := C.2.2.2.2.1.2.1
def lF (C : CT) : Nat := C.2.2.2.2.2.1.2.1
/-- n doubles up to M -/
def Pw (n M : Nat) : Prop := ∃ k : Nat, n * 2 ^ k = M
theorem Pw.le {n M : Nat} (h : Pw n M) : n ≤ M := by
  obtain ⟨k, rfl⟩ := h
  exact Nat.le_mul_of_pos_right n (Nat.two_pow_pos k)
theorem Pw.dbl {n M : Nat} (h : Pw n M) (hn : n < M) : Pw (2 * n) M := by
  obtain ⟨k, rfl⟩ := h
  cases k with
  | zero => simp at hn
  | succ k => exact ⟨k, by rw [Nat.pow_succ, Nat.mul_comm 2 n, Nat.mul_assoc, Nat.mul_comm 2]⟩
theorem Pw.le2 {n M : Nat} (h : Pw n M) (hn : n < M) : 2 * n ≤ M := (h.dbl hn).le
def cLen (C : CT) : Prop := lL C = C.2.2.1.2.1 ∧ lL C = C.2.2.2.1.2.1 ∧ lF C = C.2.2.2.2.2.2.1.2.1 ∧ lF C = C.2.2.2.2.2.2.2.1.2.1 ∧ 257 = C.2.2.2.2.2.2.2.2.1.2.1 ∧ Pw (lL C) 524288 ∧ Pw (lS C) 262144 ∧ Pw (lP C) 131072 ∧ Pw (lF C) 65536 ∧ 1024 ≤ lL C ∧ 512 ≤ lS C ∧ 512 ≤ lP C ∧ 256 ≤ lF C
/-- the potential: twice all capacities that grow -/
def cPhi (C : CT) : Nat := 2 * (3 * lL C + lS C + lP C + 3 * lF C)
def cBud (B1 B2 : Nat) (C : CT) (sz sl : Nat) : Prop := sl + 4325376 ≤ B1 + cPhi C ∧ 256 * sz + 4325376 ≤ 256 * B2 + cPhi C
/-- the last place + 1 below n at which f holds a; 0 when there is none -/
def prv (f : Nat → Nat) (a : Nat) : Nat → Nat
  | 0 => 0
  | n + 1 => if f n = a then n + 1 else prv f a n
theorem prv_congr {f g : Nat → Nat} {a : Nat} : ∀ {n : Nat}, (∀ j, j < n → f j = g j) → prv f a n = prv g a n
  | 0, _ => rfl
  | n + 1, h => by
    simp only [prv]
    rw [h n (by omega), prv_congr (n := n) (fun j hj => h j (by omega))]
theorem prv_le (f : Nat → Nat) (a : Nat) : ∀ n : Nat, prv f a n ≤ n
  | 0 => Nat.le_refl _
  | n + 1 => by
    simp only [prv]
    split
    · exact Nat.le_refl _
    · exact Nat.le_succ_of_le (prv_le f a n)
theorem prv_at (f : Nat → Nat) (a : Nat) : ∀ n : Nat, 0 < prv f a n → f (prv f a n - 1) = a
  | 0, h => absurd h (by simp [prv])
  | n + 1, h => by
    simp only [prv] at h ⊢
    by_cases e : f n = a
    · rw [if_pos e]
      exact e
    · rw [if_neg e] at h ⊢
      exact prv_at f a n h
theorem prv_none (f : Nat → Nat) (a : Nat) : ∀ n j : Nat, prv f a n ≤ j → j < n → f j ≠ a
  | 0, _, _, h => absurd h (by omega)
  | n + 1, j, h1, h2 => by
    simp only [prv] at h1
    by_cases e : f n = a
    · rw [if_pos e] at h1
      omega
    · rw [if_neg e] at h1
      by_cases hj : j = n
      · rw [hj]
        exact e
      · exact prv_none f a n j h1 (by omega)
/-- the places of the literals up to U -/
def Occ (U : Nat) (C : CT) : Prop := (∀ a, fP C a = prv (fL C) a U) ∧ ∀ j, j < U → fN C j = prv (fL C) (fL C j) j
/-- all but the clauses' arrays as it was -/
def SameG (C C' : CT) : Prop := cV C' = cV C ∧ fF C' = fF C ∧ fG C' = fG C ∧ fH C' = fH C ∧ fD C' = fD C ∧ lF C' = lF C
theorem cU_mk (x0 x1 x2 x3 x4 x5 x6 x7 x8 : AR) (u k v : Nat) : cU (x0, x1, x2, x3, x4, x5, x6, x7, x8, u, k, v) = u := rfl
theorem cK_mk (x0 x1 x2 x3 x4 x5 x6 x7 x8 : AR) (u k v : Nat) : cK (x0, x1, x2, x3, x4, x5, x6, x7, x8, u, k, v) = k := rfl
theorem cV_mk (x0 x1 x2 x3 x4 x5 x6 x7 x8 : AR) (u k v : Nat) : cV (x0, x1, x2, x3, x4, x5, x6, x7, x8, u, k, v) = v := rfl
theorem fL_mk (x0 x1 x2 x3 x4 x5 x6 x7 x8 : AR) (u k v : Nat) : fL (x0, x1, x2, x3, x4, x5, x6, x7, x8, u, k, v) = x0.2.2 := rfl
theorem fS_mk (x0 x1 x2 x3 x4 x5 x6 x7 x8 : AR) (u k v : Nat) : fS (x0, x1, x2, x3, x4, x5, x6, x7, x8, u, k, v) = x1.2.2 := rfl
theorem fC_mk (x0 x1 x2 x3 x4 x5 x6 x7 x8 : AR) (u k v : Nat) : fC (x0, x1, x2, x3, x4, x5, x6, x7, x8, u, k, v) = x2.2.2 := rfl
theorem fN_mk (x0 x1 x2 x3 x4 x5 x6 x7 x8 : AR) (u k v : Nat) : fN (x0, x1, x2, x3, x4, x5, x6, x7, x8, u, k, v) = x3.2.2 := rfl
theorem fF_mk (x0 x1 x2 x3 x4 x5 x6 x7 x8 : AR) (u k v : Nat) : fF (x0, x1, x2, x3, x4, x5, x6, x7, x8, u, k, v) = x5.2.2 := rfl
theorem fG_mk (x0 x1 x2 x3 x4 x5 x6 x7 x8 : AR) (u k v : Nat) : fG (x0, x1, x2, x3, x4, x5, x6, x7, x8, u, k, v) = x6.2.2 := rfl
theorem fH_mk (x0 x1 x2 x3 x4 x5 x6 x7 x8 : AR) (u k v : Nat) : fH (x0, x1, x2, x3, x4, x5, x6, x7, x8, u, k, v) = x7.2.2 := rfl
theorem fD_mk (x0 x1 x2 x3 x4 x5 x6 x7 x8 : AR) (u k v : Nat) : fD (x0, x1, x2, x3, x4, x5, x6, x7, x8, u, k, v) = x8.2.2 := rfl
theorem lL_mk (x0 x1 x2 x3 x4 x5 x6 x7 x8 : AR) (u k v : Nat) : lL (x0, x1, x2, x3, x4, x5, x6, x7, x8, u, k, v) = x0.2.1 := rfl
theorem lS_mk (x0 x1 x2 x3 x4 x5 x6 x7 x8 : AR) (u k v : Nat) : lS (x0, x1, x2, x3, x4, x5, x6, x7, x8, u, k, v) = x1.2.1 := rfl
theorem lP_mk (x0 x1 x2 x3 x4 x5 x6 x7 x8 : AR) (u k v : Nat) : lP (x0, x1, x2, x3, x4, x5, x6, x7, x8, u, k, v) = x4.2.1 := rfl
theorem lF_mk (x0 x1 x2 x3 x4 x5 x6 x7 x8 : AR) (u k v : Nat) : lF (x0, x1, x2, x3, x4, x5, x6, x7, x8, u, k, v) = x5.2.1 := rfl
theorem fP_mk (x0 x1 x2 x3 x4 x5 x6 x7 x8 : AR) (u k v a : Nat) : fP (x0, x1, x2, x3, x4, x5, x6, x7, x8, u, k, v) a = if a < x4.2.1 then x4.2.2 a else 0 := rfl
set_option maxHeartbeats 4000000 in
set_option maxRecDepth 100000 in
/-- a row twice as long, the same in its first half -/
theorem c_longer (l : Launch) (b : BK) (BC BS sz sl : Nat) (a n : Nat) (f : Nat → Nat) (hn : n ≤ 524288) (h1 : sz + 1 ≤ BC) (h2 : sl + 2 * n ≤ BS) : Con l b y_Circuit_longer b_Circuit_longer 2 (some (.array .int)) 1 30 BC BS sz sl [.ref a] [[cN b a n f]] (S := (Nat → Nat)) (fun r sz' sl' g => r = some (.ref sz) ∧ sz' = sz + 1 ∧ sl' = sl + 2 * n ∧ ∀ j, g j = if j < n then f j else 0) (fun g => [[cN b a n f], [cN b sz (2 * n) g]]) := by
  refine con_of (L0 := [(0, .ref a)]) (by decide) (Nat.le_of_ble_eq_true rfl) rfl ?_
  intro p e R s m args below meth c Q A H lo X hini hw RT
  have X : Ctx p R s m args meth c b_Circuit_longer 2 "LoopProver$Circuit" b BC BS sl 1 30 := X
  have hw : Wd b BC BS sl s A [[cN b a n f]] sz sl H lo := hw
  refine r_iconst (v := nI 2) X (dat D_Circuit_longer 0 rfl) rfl ?_
  refine r_aldn X (dat D_Circuit_longer 1 rfl) rfl 0 rfl ?_
  refine r_alen X hw (dat D_Circuit_longer 2 rfl) 0 0 0 rfl rfl rfl ?_
  refine r_imul (z := nI (2 * n)) X (dat D_Circuit_longer 3 rfl) (pk_mul _ _) ?_
  refine r_newN X hw ac_int (dat D_Circuit_longer 4 rfl) (by omega) (by omega) (by omega) (fun H hw => ?_)
  have hw : Wd b BC BS sl s A [[cN b a n f], [cN b sz (2 * n) (fun _ => 0)]] (sz + 1) (sl + (2 * n)) H lo := hw
  refine r_astn (L' := [(1, .ref sz), (0, .ref a)]) X (dat D_Circuit_longer 5 rfl) rfl (by decide) rfl ?_
  refine r_aldn X (dat D_Circuit_longer 6 rfl) rfl 1 rfl ?_
  refine r_iconst (v := nI 0) X (dat D_Circuit_longer 7 rfl) rfl ?_
  refine r_aldn X (dat D_Circuit_longer 8 rfl) rfl 0 rfl ?_
  refine r_iconst (v := nI 0) X (dat D_Circuit_longer 9 rfl) rfl ?_
  refine r_aldn X (dat D_Circuit_longer 10 rfl) rfl 1 rfl ?_
  refine r_alen X hw (dat D_Circuit_longer 11 rfl) 0 0 0 rfl rfl rfl ?_
  refine r_copyN (Ws' := [[cN b a n f], [cN b sz (2 * n) (va_cpy f (fun _ => 0) 0 0 n)]]) X hw m_Circuit_70 (dat D_Circuit_longer 12 rfl) 0 0 1 0 rfl rfl rfl rfl (by omega) (by omega) (by omega) (by omega) (by omega) (by decide) (by decide) rfl (fun H lo hw => ?_)
  refine r_aldn X (dat D_Circuit_longer 13 rfl) rfl 0 rfl ?_
  exact r_aret RT (Or.inr ⟨_, rfl⟩) (Or.inr ⟨_, rfl⟩) (dat D_Circuit_longer 14 rfl) (va_cpy f (fun _ => 0) 0 0 n) ⟨rfl, rfl, by omega, fun j => by
    by_cases h : j < n
    · rw [if_pos h]; exact cpy_in h
    · rw [if_neg h]; exact cpy_out (by omega)⟩ hw
set_option maxHeartbeats 4000000 in
set_option maxRecDepth 100000 in
/-- room for one more literal -/
theorem c_room (l : Launch) (b : BK) (BC BS sz sl : Nat) (h : Nat) (C : CT) (B1 B2 : Nat) (hB1 : B1 ≤ BS) (hB2 : B2 ≤ BC) (hlen : cLen C) (hb : cBud B1 B2 C sz sl) (hu : cU C ≤ lL C) (hu2 : cU C < 524288) : Con l b y_Circuit_room b_Circuit_room 1 none 2 60 BC BS sz sl [.ref h] [circW b h C] (S := CT) (fun r sz' sl' C' => r = none ∧ cLen C' ∧ cBud B1 B2 C' sz' sl' ∧ cU C' < lL C' ∧ cU C' = cU C ∧ cK C' = cK C ∧ (∀ j, j < cU C → fL C' j = fL C j ∧ fC C' j = fC C j ∧ fN C' j = fN C j) ∧ fS C' = fS C ∧ lS C' = lS C ∧ (∀ a, fP C' a = fP C a) ∧ SameG C C') (fun C' => [circW b h C']) := by
  obtain ⟨⟨a0, n0, f0⟩, ⟨a1, n1, f1⟩, ⟨a2, n2, f2⟩, ⟨a3, n3, f3⟩, ⟨a4, n4, f4⟩, ⟨a5, n5, f5⟩, ⟨a6, n6, f6⟩, ⟨a7, n7, f7⟩, ⟨a8, n8, f8⟩, u, k, v⟩ := C
  dsimp only [cLen, cPhi, cBud, SameG, cU_mk, cK_mk, cV_mk, fL_mk, fS_mk, fC_mk, fN_mk, fP_mk, fF_mk, fG_mk, fH_mk, fD_mk, lL_mk, lS_mk, lP_mk, lF_mk] at hlen hb hu hu2
  obtain ⟨rfl, rfl, rfl, rfl, rfl, p0, p1, p4, p5, g0, g1, g4, g5⟩ := hlen
  have q0 := p0.le
  have q1 := p1.le
  have q4 := p4.le
  have q5 := p5.le
  refine con_of (L0 := [(0, .ref h)]) (by decide) (Nat.le_of_ble_eq_true rfl) rfl ?_
  intro p e R s m args below meth c Q A H lo X hini hw RT
  have X : Ctx p R s m args meth c b_Circuit_room 1 "LoopProver$Circuit" b BC BS sl 2 60 := X
  have hw : Wd b BC BS sl s A [[cO h 2 [.ref a0, .ref a1, .int (nI u), .int (nI k), .int (nI v), .ref a2, .ref a3, .ref a4, .ref a5, .ref a6, .ref a7, .ref a8]], [cN b a0 n0 f0], [cN b a1 n1 f1], [cN b a2 n0 f2], [cN b a3 n0 f3], [cN b a4 n4 f4], [cN b a5 n5 f5], [cN b a6 n5 f6], [cN b a7 n5 f7], [cN b a8 257 f8]] sz sl H lo := hw.re rfl
  refine r_aldn X (dat D_Circuit_room 0 rfl) rfl 0 rfl ?_
  refine r_get X hw f_Circuit_39 (dat D_Circuit_room 1 rfl) 0 0 rfl rfl rfl ?_
  refine r_aldn X (dat D_Circuit_room 2 rfl) rfl 0 rfl ?_
  refine r_get X hw f_Circuit_9 (dat D_Circuit_room 3 rfl) 0 0 rfl rfl rfl ?_
  refine r_alen X hw (dat D_Circuit_room 4 rfl) 1 0 0 rfl rfl rfl ?_
  refine r_icmpge (tgt := 13) X (nI_leI (by omega) (by omega)) (dat D_Circuit_room 5 rfl) rfl (fun hc => ?_) (fun hc => ?_)
  · have hn0 : n0 < 524288 := by omega
    have hd := p0.le2 hn0
    refine r_aldn X (dat D_Circuit_room 7 rfl) rfl 0 rfl ?_
    refine r_aldn X (dat D_Circuit_room 8 rfl) rfl 0 rfl ?_
    refine r_get X hw f_Circuit_9 (dat D_Circuit_room 9 rfl) 0 0 rfl rfl rfl ?_
    refine r_callS (NW := 10) (As := [.ref a0]) (st := [.ref h]) X hw m_Circuit_53 (c_longer l b BC BS sz sl a0 n0 f0 (by omega) (by omega) (by omega)) (dat D_Circuit_room 10 rfl) [1] [0, 2, 3, 4, 5, 6, 7, 8, 9] rfl (by decide +kernel) rfl rfl rfl rfl (Nat.le_of_ble_eq_true rfl) ⟨by decide, by decide⟩ (fun r x0 sz_1 sl_1 H lo hp hw => ?_)
    obtain ⟨rfl, rfl, rfl, hx0⟩ := hp
    refine r_st (st' := [.ref sz, .ref h]) rfl ?_
    have hw : Wd b BC BS sl s A [[cN b a0 n0 f0], [cN b sz (2 * n0) x0], [cO h 2 [.ref a0, .ref a1, .int (nI u), .int (nI k), .int (nI v), .ref a2, .ref a3, .ref a4, .ref a5, .ref a6, .ref a7, .ref a8]], [cN b a1 n1 f1], [cN b a2 n0 f2], [cN b a3 n0 f3], [cN b a4 n4 f4], [cN b a5 n5 f5], [cN b a6 n5 f6], [cN b a7 n5 f7], [cN b a8 257 f8]] (sz + 1) (sl + 2 * n0) H lo := hw
    refine r_put (Ws' := [[cN b a0 n0 f0], [cN b sz (2 * n0) x0], [cO h 2 [.ref sz, .ref a1, .int (nI u), .int (nI k), .int (nI v), .ref a2, .ref a3, .ref a4, .ref a5, .ref a6, .ref a7, .ref a8]], [cN b a1 n1 f1], [cN b a2 n0 f2], [cN b a3 n0 f3], [cN b a4 n4 f4], [cN b a5 n5 f5], [cN b a6 n5 f6], [cN b a7 n5 f7], [cN b a8 257 f8]]) X hw f_Circuit_9 (dat D_Circuit_room 11 rfl) 2 0 rfl rfl rfl rfl rfl (Nat.le_of_ble_eq_true rfl) rfl (fun H lo hw => ?_)
    refine r_aldn X (dat D_Circuit_room 12 rfl) rfl 0 rfl ?_
    refine r_aldn X (dat D_Circuit_room 13 rfl) rfl 0 rfl ?_
    refine r_get X hw f_Circuit_18 (dat D_Circuit_room 14 rfl) 2 0 rfl rfl rfl ?_
    refine r_callS (NW := 11) (As := [.ref a2]) (st := [.ref h]) X hw m_Circuit_53 (c_longer l b BC BS (sz + 1) (sl + 2 * n0) a2 n0 f2 (by omega) (by omega) (by omega)) (dat D_Circuit_room 15 rfl) [4] [0, 1, 2, 3, 5, 6, 7, 8, 9, 10] rfl (by decide +kernel) rfl rfl rfl rfl (Nat.le_of_ble_eq_true rfl) ⟨by decide, by decide⟩ (fun r x2 sz_2 sl_2 H lo hp hw => ?_)
    obtain ⟨rfl, rfl, rfl, hx2⟩ := hp
    refine r_st (st' := [.ref (sz + 1), .ref h]) rfl ?_
    have hw : Wd b BC BS sl s A [[cN b a2 n0 f2], [cN b (sz + 1) (2 * n0) x2], [cN b a0 n0 f0], [cN b sz (2 * n0) x0], [cO h 2 [.ref sz, .ref a1, .int (nI u), .int (nI k), .int (nI v), .ref a2, .ref a3, .ref a4, .ref a5, .ref a6, .ref a7, .ref a8]], [cN b a1 n1 f1], [cN b a3 n0 f3], [cN b a4 n4 f4], [cN b a5 n5 f5], [cN b a6 n5 f6], [cN b a7 n5 f7], [cN b a8 257 f8]] (sz + 1 + 1) (sl + 2 * n0 + 2 * n0) H lo := hw
    refine r_put (Ws' := [[cN b a2 n0 f2], [cN b (sz + 1) (2 * n0) x2], [cN b a0 n0 f0], [cN b sz (2 * n0) x0], [cO h 2 [.ref sz, .ref a1, .int (nI u), .int (nI k), .int (nI v), .ref (sz + 1), .ref a3, .ref a4, .ref a5, .ref a6, .ref a7, .ref a8]], [cN b a1 n1 f1], [cN b a3 n0 f3], [cN b a4 n4 f4], [cN b a5 n5 f5], [cN b a6 n5 f6], [cN b a7 n5 f7], [cN b a8 257 f8]]) X hw f_Circuit_18 (dat D_Circuit_room 16 rfl) 4 0 rfl rfl rfl rfl rfl (Nat.le_of_ble_eq_true rfl) rfl (fun H lo hw => ?_)
    refine r_aldn X (dat D_Circuit_room 17 rfl) rfl 0 rfl ?_
    refine r_aldn X (dat D_Circuit_room 18 rfl) rfl 0 rfl ?_
    refine r_get X hw f_Circuit_21 (dat D_Circuit_room 19 rfl) 4 0 rfl rfl rfl ?_
    refine r_callS (NW := 12) (As := [.ref a3]) (st := [.ref h]) X hw m_Circuit_53 (c_longer l b BC BS (sz + 1 + 1) (sl + 2 * n0 + 2 * n0) a3 n0 f3 (by omega) (by omega) (by omega)) (dat D_Circuit_room 20 rfl) [6] [0, 1, 2, 3, 4, 5, 7, 8, 9, 10, 11] rfl (by decide +kernel) rfl rfl rfl rfl (Nat.le_of_ble_eq_true rfl) ⟨by decide, by decide⟩ (fun r x3 sz_3 sl_3 H lo hp hw => ?_)
    obtain ⟨rfl, rfl, rfl, hx3⟩ := hp
    refine r_st (st' := [.ref (sz + 1 + 1), .ref h]) rfl ?_
    have hw : Wd b BC BS sl s A [[cN b a3 n0 f3], [cN b (sz + 1 + 1) (2 * n0) x3], [cN b a2 n0 f2], [cN b (sz + 1) (2 * n0) x2], [cN b a0 n0 f0], [cN b sz (2 * n0) x0], [cO h 2 [.ref sz, .ref a1, .int (nI u), .int (nI k), .int (nI v), .ref (sz + 1), .ref a3, .ref a4, .ref a5, .ref a6, .ref a7, .ref a8]], [cN b a1 n1 f1], [cN b a4 n4 f4], [cN b a5 n5 f5], [cN b a6 n5 f6], [cN b a7 n5 f7], [cN b a8 257 f8]] (sz + 1 + 1 + 1) (sl + 2 * n0 + 2 * n0 + 2 * n0) H lo := hw
    refine r_put (Ws' := [[cN b a3 n0 f3], [cN b (sz + 1 + 1) (2 * n0) x3], [cN b a2 n0 f2], [cN b (sz + 1) (2 * n0) x2], [cN b a0 n0 f0], [cN b sz (2 * n0) x0], [cO h 2 [.ref sz, .ref a1, .int (nI u), .int (nI k), .int (nI v), .ref (sz + 1), .ref (sz + 1 + 1), .ref a4, .ref a5, .ref a6, .ref a7, .ref a8]], [cN b a1 n1 f1], [cN b a4 n4 f4], [cN b a5 n5 f5], [cN b a6 n5 f6], [cN b a7 n5 f7], [cN b a8 257 f8]]) X hw f_Circuit_21 (dat D_Circuit_room 21 rfl) 6 0 rfl rfl rfl rfl rfl (Nat.le_of_ble_eq_true rfl) rfl (fun H lo hw => ?_)
    refine r_vret RT (dat D_Circuit_room 22 rfl) ((sz, 2 * n0, x0), (a1, n1, f1), (sz + 1, 2 * n0, x2), (sz + 1 + 1, 2 * n0, x3), (a4, n4, f4), (a5, n5, f5), (a6, n5, f6), (a7, n5, f7), (a8, 257, f8), u, k, v) ⟨rfl, ⟨rfl, rfl, rfl, rfl, rfl, p0.dbl hn0, p1, p4, p5, ?_, g1, g4, g5⟩, ⟨?_, ?_⟩, ?_, rfl, rfl, ?_, rfl, rfl, fun _ => rfl, rfl, rfl, rfl, rfl, rfl, rfl⟩ ((hw.pick (NW := 13) (Ws' := [[cO h 2 [.ref sz, .ref a1, .int (nI u), .int (nI k), .int (nI v), .ref (sz + 1), .ref (sz + 1 + 1), .ref a4, .ref a5, .ref a6, .ref a7, .ref a8]], [cN b sz (2 * n0) x0], [cN b a1 n1 f1], [cN b (sz + 1) (2 * n0) x2], [cN b (sz + 1 + 1) (2 * n0) x3], [cN b a4 n4 f4], [cN b a5 n5 f5], [cN b a6 n5 f6], [cN b a7 n5 f7], [cN b a8 257 f8]]) [6, 5, 7, 3, 1, 8, 9, 10, 11, 12] [0, 2, 4] rfl (by decide +kernel) rfl).re rfl)
    all_goals dsimp only [cLen, cPhi, cBud, SameG, cU_mk, cK_mk, cV_mk, fL_mk, fS_mk, fC_mk, fN_mk, fP_mk, fF_mk, fG_mk, fH_mk, fD_mk, lL_mk, lS_mk, lP_mk, lF_mk]
    · omega
    · omega
    · omega
    · omega
    · intro j hj
      rw [hx0, hx2, hx3]
      simp only [if_pos (show j < n0 by omega)]
      exact ⟨trivial, trivial, trivial⟩
  · exact r_vret RT (dat D_Circuit_room 6 rfl) ((a0, n0, f0), (a1, n1, f1), (a2, n0, f2), (a3, n0, f3), (a4, n4, f4), (a5, n5, f5), (a6, n5, f6), (a7, n5, f7), (a8, 257, f8), u, k, v) ⟨rfl, ⟨rfl, rfl, rfl, rfl, rfl, p0, p1, p4, p5, g0, g1, g4, g5⟩, hb, Nat.not_le.mp hc, rfl, rfl, fun _ _ => ⟨rfl, rfl, rfl⟩, rfl, rfl, fun _ => rfl, rfl, rfl, rfl, rfl, rfl, rfl⟩ ((hw.pick (NW := 10) (Ws' := [[cO h 2 [.ref a0, .ref a1, .int (nI u), .int (nI k), .int (nI v), .ref a2, .ref a3, .ref a4, .ref a5, .ref a6, .ref a7, .ref a8]], [cN b a0 n0 f0], [cN b a1 n1 f1], [cN b a2 n0 f2], [cN b a3 n0 f3], [cN b a4 n4 f4], [cN b a5 n5 f5], [cN b a6 n5 f6], [cN b a7 n5 f7], [cN b a8 257 f8]]) [0, 1, 2, 3, 4, 5, 6, 7, 8, 9] [] rfl (by decide +kernel) rfl).re rfl)
theorem circ0 (b : BK) (h : Nat) (C : CT) : ∃ fs, (circW b h C)[0]? = some (h, .inr (2, fs)) := by
  obtain ⟨⟨a0, n0, f0⟩, ⟨a1, n1, f1⟩, ⟨a2, n2, f2⟩, ⟨a3, n3, f3⟩, ⟨a4, n4, f4⟩, ⟨a5, n5, f5⟩, ⟨a6, n6, f6⟩, ⟨a7, n7, f7⟩, ⟨a8, n8, f8⟩, u, k, v⟩ := C
  exact ⟨_, rfl⟩
theorem Occ_put {U x : Nat} {lit lit' nxt nxt' pl pl' : Nat → Nat} (h1 : ∀ a, pl a = prv lit a U) (h2 : ∀ j, j < U → nxt j = prv lit (lit j) j) (e1 : ∀ j, j < U → lit' j = lit j) (e2 : lit' U = x) (e3 : ∀ j, j < U → nxt' j = nxt j) (e4 : nxt' U = pl x) (e5 : ∀ a, pl' a = if a = x then U + 1 else pl a) :
    (∀ a, pl' a = prv lit' a (U + 1)) ∧ ∀ j, j < U + 1 → nxt' j = prv lit' (lit' j) j := by
  have hc : ∀ a n, n ≤ U → prv lit' a n = prv lit a n := fun a n hn => prv_congr (fun j hj => e1 j (by omega))
  refine ⟨fun a => ?_, fun j hj => ?_⟩
  · rw [e5]
    show _ = if lit' U = a then U + 1 else prv lit' a U
    rw [e2, hc a U (Nat.le_refl _), ← h1]
    by_cases h : a = x
    · rw [if_pos h, if_pos h.symm]
    · rw [if_neg h, if_neg (fun z => h z.symm)]
  · by_cases h : j = U
    · subst h
      rw [e4, e2, h1, hc x j (Nat.le_refl _)]
    · rw [e3 j (by omega), e1 j (by omega), h2 j (by omega), hc _ j (by omega)]
set_option maxHeartbeats 4000000 in
set_option maxRecDepth 100000 in
/-- a clause begins -/
theorem c_open (l : Launch) (b : BK) (BC BS sz sl : Nat) (h : Nat) (C : CT) (B1 B2 : Nat) (hB1 : B1 ≤ BS) (hB2 : B2 ≤ BC) (hlen : cLen C) (hb : cBud B1 B2 C sz sl) (hk : cK C + 1 ≤ lS C) (hk2 : cK C + 2 ≤ 262144) (hu : cU C < 2 ^ 30) : Con l b y_Circuit_open b_Circuit_open 1 none 2 60 BC BS sz sl [.ref h] [circW b h C] (S := CT) (fun r sz' sl' C' => r = none ∧ cLen C' ∧ cBud B1 B2 C' sz' sl' ∧ cU C' = cU C ∧ cK C' = cK C ∧ fL C' = fL C ∧ fC C' = fC C ∧ fN C' = fN C ∧ lL C' = lL C ∧ (∀ j, j < cK C → fS C' j = fS C j) ∧ fS C' (cK C) = cU C ∧ cK C + 2 ≤ lS C' ∧ (∀ a, fP C' a = fP C a) ∧ SameG C C') (fun C' => [circW b h C']) := by
  obtain ⟨⟨a0, n0, f0⟩, ⟨a1, n1, f1⟩, ⟨a2, n2, f2⟩, ⟨a3, n3, f3⟩, ⟨a4, n4, f4⟩, ⟨a5, n5, f5⟩, ⟨a6, n6, f6⟩, ⟨a7, n7, f7⟩, ⟨a8, n8, f8⟩, u, k, v⟩ := C
  dsimp only [cLen, cPhi, cBud, SameG, cU_mk, cK_mk, cV_mk, fL_mk, fS_mk, fC_mk, fN_mk, fP_mk, fF_mk, fG_mk, fH_mk, fD_mk, lL_mk, lS_mk, lP_mk, lF_mk] at hlen hb hk hk2 hu
  obtain ⟨rfl, rfl, rfl, rfl, rfl, p0, p1, p4, p5, g0, g1, g4, g5⟩ := hlen
  have q0 := p0.le
  have q1 := p1.le
  have q4 := p4.le
  have q5 := p5.le
  refine con_of (L0 := [(0, .ref h)]) (by decide) (Nat.le_of_ble_eq_true rfl) rfl ?_
  intro p e R s m args below meth c Q A H lo X hini hw RT
  have X : Ctx p R s m args meth c b_Circuit_open 1 "LoopProver$Circuit" b BC BS sl 2 60 := X
  have hw : Wd b BC BS sl s A [[cO h 2 [.ref a0, .ref a1, .int (nI u), .int (nI k), .int (nI v), .ref a2, .ref a3, .ref a4, .ref a5, .ref a6, .ref a7, .ref a8]], [cN b a0 n0 f0], [cN b a1 n1 f1], [cN b a2 n0 f2], [cN b a3 n0 f3], [cN b a4 n4 f4], [cN b a5 n5 f5], [cN b a6 n5 f6], [cN b a7 n5 f7], [cN b a8 257 f8]] sz sl H lo := hw.re rfl
  have J : ∀ (y1 m1 : Nat) (g1' : Nat → Nat) (sz' sl' : Nat) (H : Heap) (lo : List Loc), (Pw m1 262144 ∧ 512 ≤ m1 ∧ k + 2 ≤ m1) → (∀ j, j < k → g1' j = f1 j) → (sl' + 4325376 ≤ B1 + 2 * (3 * n0 + m1 + n4 + 3 * n5) ∧ 256 * sz' + 4325376 ≤ 256 * B2 + 2 * (3 * n0 + m1 + n4 + 3 * n5)) → Wd b BC BS sl s A [[cO h 2 [.ref a0, .ref y1, .int (nI u), .int (nI k), .int (nI v), .ref a2, .ref a3, .ref a4, .ref a5, .ref a6, .ref a7, .ref a8]], [cN b a0 n0 f0], [cN b y1 m1 g1'], [cN b a2 n0 f2], [cN b a3 n0 f3], [cN b a4 n4 f4], [cN b a5 n5 f5], [cN b a6 n5 f6], [cN b a7 n5 f7], [cN b a8 257 f8]] sz' sl' H lo → V p l e R s m args below meth c Q 1 H lo 25 [(0, .ref h)] [] := by
    intro y1 m1 g1' sz' sl' H lo hm hg hbb hw
    have qm := hm.1.le
    refine r_aldn X (dat D_Circuit_open 13 rfl) rfl 0 rfl ?_
    refine r_get X hw f_Circuit_15 (dat D_Circuit_open 14 rfl) 0 0 rfl rfl rfl ?_
    refine r_aldn X (dat D_Circuit_open 15 rfl) rfl 0 rfl ?_
    refine r_get X hw f_Circuit_43 (dat D_Circuit_open 16 rfl) 0 0 rfl rfl rfl ?_
    refine r_aldn X (dat D_Circuit_open 17 rfl) rfl 0 rfl ?_
    refine r_get X hw f_Circuit_39 (dat D_Circuit_open 18 rfl) 0 0 rfl rfl rfl ?_
    refine r_iastN (Ws' := [[cO h 2 [.ref a0, .ref y1, .int (nI u), .int (nI k), .int (nI v), .ref a2, .ref a3, .ref a4, .ref a5, .ref a6, .ref a7, .ref a8]], [cN b a0 n0 f0], [cN b y1 m1 (va_up g1' k u)], [cN b a2 n0 f2], [cN b a3 n0 f3], [cN b a4 n4 f4], [cN b a5 n5 f5], [cN b a6 n5 f6], [cN b a7 n5 f7], [cN b a8 257 f8]]) X hw (dat D_Circuit_open 19 rfl) 2 0 rfl rfl (by omega) (by omega) rfl (fun H lo hw => ?_)
    refine r_vret RT (dat D_Circuit_open 20 rfl) ((a0, n0, f0), (y1, m1, va_up g1' k u), (a2, n0, f2), (a3, n0, f3), (a4, n4, f4), (a5, n5, f5), (a6, n5, f6), (a7, n5, f7), (a8, 257, f8), u, k, v) ⟨rfl, ⟨rfl, rfl, rfl, rfl, rfl, p0, hm.1, p4, p5, g0, hm.2.1, g4, g5⟩, hbb, rfl, rfl, rfl, rfl, rfl, rfl, fun j hj => ?_, ?_, hm.2.2, fun _ => rfl, rfl, rfl, rfl, rfl, rfl, rfl⟩ ((hw.pick (NW := 10) (Ws' := [[cO h 2 [.ref a0, .ref y1, .int (nI u), .int (nI k), .int (nI v), .ref a2, .ref a3, .ref a4, .ref a5, .ref a6, .ref a7, .ref a8]], [cN b a0 n0 f0], [cN b y1 m1 (va_up g1' k u)], [cN b a2 n0 f2], [cN b a3 n0 f3], [cN b a4 n4 f4], [cN b a5 n5 f5], [cN b a6 n5 f6], [cN b a7 n5 f7], [cN b a8 257 f8]]) [0, 1, 2, 3, 4, 5, 6, 7, 8, 9] [] rfl (by decide +kernel) rfl).re rfl)
    · exact (up_n (Nat.ne_of_lt hj)).trans (hg j hj)
    · exact up_s
  refine r_aldn X (dat D_Circuit_open 0 rfl) rfl 0 rfl ?_
  refine r_get X hw f_Circuit_43 (dat D_Circuit_open 1 rfl) 0 0 rfl rfl rfl ?_
  refine r_iconst (v := nI 2) X (dat D_Circuit_open 2 rfl) rfl ?_
  refine r_iadd (z := nI (k + 2)) X (dat D_Circuit_open 3 rfl) (nI_add _ _) ?_
  refine r_aldn X (dat D_Circuit_open 4 rfl) rfl 0 rfl ?_
  refine r_get X hw f_Circuit_15 (dat D_Circuit_open 5 rfl) 0 0 rfl rfl rfl ?_
  refine r_alen X hw (dat D_Circuit_open 6 rfl) 2 0 0 rfl rfl rfl ?_
  refine r_icmple (tgt := 25) X (nI_leI (by omega) (by omega)) (dat D_Circuit_open 7 rfl) rfl (fun hc => ?_) (fun hc => ?_)
  · exact J a1 n1 f1 sz sl H lo ⟨p1, g1, hc⟩ (fun _ _ => rfl) hb hw
  · have hn1 : n1 < 262144 := by omega
    have hd := p1.le2 hn1
    refine r_aldn X (dat D_Circuit_open 8 rfl) rfl 0 rfl ?_
    refine r_aldn X (dat D_Circuit_open 9 rfl) rfl 0 rfl ?_
    refine r_get X hw f_Circuit_15 (dat D_Circuit_open 10 rfl) 0 0 rfl rfl rfl ?_
    refine r_callS (NW := 10) (As := [.ref a1]) (st := [.ref h]) X hw m_Circuit_53 (c_longer l b BC BS sz sl a1 n1 f1 (by omega) (by omega) (by omega)) (dat D_Circuit_open 11 rfl) [2] [0, 1, 3, 4, 5, 6, 7, 8, 9] rfl (by decide +kernel) rfl rfl rfl rfl (Nat.le_of_ble_eq_true rfl) ⟨by decide, by decide⟩ (fun r x1 sz_1 sl_1 H lo hp hw => ?_)
    obtain ⟨rfl, rfl, rfl, hx1⟩ := hp
    refine r_st (st' := [.ref sz, .ref h]) rfl ?_
    have hw : Wd b BC BS sl s A [[cN b a1 n1 f1], [cN b sz (2 * n1) x1], [cO h 2 [.ref a0, .ref a1, .int (nI u), .int (nI k), .int (nI v), .ref a2, .ref a3, .ref a4, .ref a5, .ref a6, .ref a7, .ref a8]], [cN b a0 n0 f0], [cN b a2 n0 f2], [cN b a3 n0 f3], [cN b a4 n4 f4], [cN b a5 n5 f5], [cN b a6 n5 f6], [cN b a7 n5 f7], [cN b a8 257 f8]] (sz + 1) (sl + 2 * n1) H lo := hw
    refine r_put (Ws' := [[cN b a1 n1 f1], [cN b sz (2 * n1) x1], [cO h 2 [.ref a0, .ref sz, .int (nI u), .int (nI k), .int (nI v), .ref a2, .ref a3, .ref a4, .ref a5, .ref a6, .ref a7, .ref a8]], [cN b a0 n0 f0], [cN b a2 n0 f2], [cN b a3 n0 f3], [cN b a4 n4 f4], [cN b a5 n5 f5], [cN b a6 n5 f6], [cN b a7 n5 f7], [cN b a8 257 f8]]) X hw f_Circuit_15 (dat D_Circuit_open 12 rfl) 2 0 rfl rfl rfl rfl rfl (Nat.le_of_ble_eq_true rfl) rfl (fun H lo hw => ?_)
    have hw : Wd b BC BS sl s A [[cO h 2 [.ref a0, .ref sz, .int (nI u), .int (nI k), .int (nI v), .ref a2, .ref a3, .ref a4, .ref a5, .ref a6, .ref a7, .ref a8]], [cN b a0 n0 f0], [cN b sz (2 * n1) x1], [cN b a2 n0 f2], [cN b a3 n0 f3], [cN b a4 n4 f4], [cN b a5 n5 f5], [cN b a6 n5 f6], [cN b a7 n5 f7], [cN b a8 257 f8]] (sz + 1) (sl + 2 * n1) H lo := hw.pick (NW := 11) [2, 3, 1, 4, 5, 6, 7, 8, 9, 10] [0] rfl (by decide +kernel) rfl
    exact J _ _ _ _ _ H lo ⟨p1.dbl hn1, by omega, by omega⟩ (fun j hj => by rw [hx1, if_pos (by omega)]) (by omega) hw
set_option maxHeartbeats 4000000 in
set_option maxRecDepth 100000 in
/-- a clause ends -/
theorem c_close (l : Launch) (b : BK) (BC BS sz sl : Nat) (h : Nat) (C : CT) (hlen : cLen C) (hk : cK C + 2 ≤ lS C) (hu : cU C < 2 ^ 30) : Con l b y_Circuit_close b_Circuit_close 1 none 0 0 BC BS sz sl [.ref h] [circW b h C] (S := CT) (fun r sz' sl' C' => r = none ∧ sz = sz' ∧ sl = sl' ∧ cLen C' ∧ cPhi C' = cPhi C ∧ cU C' = cU C ∧ cK C' = cK C + 1 ∧ fL C' = fL C ∧ fC C' = fC C ∧ fN C' = fN C ∧ lL C' = lL C ∧ lS C' = lS C ∧ (∀ j, j < cK C + 1 → fS C' j = fS C j) ∧ fS C' (cK C + 1) = cU C ∧ (∀ a, fP C' a = fP C a) ∧ SameG C C') (fun C' => [circW b h C']) := by
  obtain ⟨⟨a0, n0, f0⟩, ⟨a1, n1, f1⟩, ⟨a2, n2, f2⟩, ⟨a3, n3, f3⟩, ⟨a4, n4, f4⟩, ⟨a5, n5, f5⟩, ⟨a6, n6, f6⟩, ⟨a7, n7, f7⟩, ⟨a8, n8, f8⟩, u, k, v⟩ := C
  dsimp only [cLen, cPhi, cBud, SameG, cU_mk, cK_mk, cV_mk, fL_mk, fS_mk, fC_mk, fN_mk, fP_mk, fF_mk, fG_mk, fH_mk, fD_mk, lL_mk, lS_mk, lP_mk, lF_mk] at hlen hk hu
  obtain ⟨rfl, rfl, rfl, rfl, rfl, p0, p1, p4, p5, g0, g1, g4, g5⟩ := hlen
  have q0 := p0.le
  have q1 := p1.le
  have q4 := p4.le
  have q5 := p5.le
  refine con_of (L0 := [(0, .ref h)]) (by decide) (Nat.le_of_ble_eq_true rfl) rfl ?_
  intro p e R s m args below meth c Q A H lo X hini hw RT
  have X : Ctx p R s m args meth c b_Circuit_close 1 "LoopProver$Circuit" b BC BS sl 0 0 := X
  have hw : Wd b BC BS sl s A [[cO h 2 [.ref a0, .ref a1, .int (nI u), .int (nI k), .int (nI v), .ref a2, .ref a3, .ref a4, .ref a5, .ref a6, .ref a7, .ref a8]], [cN b a0 n0 f0], [cN b a1 n1 f1], [cN b a2 n0 f2], [cN b a3 n0 f3], [cN b a4 n4 f4], [cN b a5 n5 f5], [cN b a6 n5 f6], [cN b a7 n5 f7], [cN b a8 257 f8]] sz sl H lo := hw.re rfl
  refine r_aldn X (dat D_Circuit_close 0 rfl) rfl 0 rfl ?_
  refine r_dup X (dat D_Circuit_close 1 rfl) rfl ?_
  refine r_get X hw f_Circuit_43 (dat D_Circuit_close 2 rfl) 0 0 rfl rfl rfl ?_
  refine r_iconst (v := nI 1) X (dat D_Circuit_close 3 rfl) rfl ?_
  refine r_iadd (z := nI (k + 1)) X (dat D_Circuit_close 4 rfl) (nI_add _ _) ?_
  refine r_put (Ws' := [[cO h 2 [.ref a0, .ref a1, .int (nI u), .int (nI (k + 1)), .int (nI v), .ref a2, .ref a3, .ref a4, .ref a5, .ref a6, .ref a7, .ref a8]], [cN b a0 n0 f0], [cN b a1 n1 f1], [cN b a2 n0 f2], [cN b a3 n0 f3], [cN b a4 n4 f4], [cN b a5 n5 f5], [cN b a6 n5 f6], [cN b a7 n5 f7], [cN b a8 257 f8]]) X hw f_Circuit_43 (dat D_Circuit_close 5 rfl) 0 0 rfl rfl rfl rfl rfl (Nat.le_of_ble_eq_true rfl) rfl (fun H lo hw => ?_)
  refine r_aldn X (dat D_Circuit_close 6 rfl) rfl 0 rfl ?_
  refine r_get X hw f_Circuit_15 (dat D_Circuit_close 7 rfl) 0 0 rfl rfl rfl ?_
  refine r_aldn X (dat D_Circuit_close 8 rfl) rfl 0 rfl ?_
  refine r_get X hw f_Circuit_43 (dat D_Circuit_close 9 rfl) 0 0 rfl rfl rfl ?_
  refine r_aldn X (dat D_Circuit_close 10 rfl) rfl 0 rfl ?_
  refine r_get X hw f_Circuit_39 (dat D_Circuit_close 11 rfl) 0 0 rfl rfl rfl ?_
  refine r_iastN (Ws' := [[cO h 2 [.ref a0, .ref a1, .int (nI u), .int (nI (k + 1)), .int (nI v), .ref a2, .ref a3, .ref a4, .ref a5, .ref a6, .ref a7, .ref a8]], [cN b a0 n0 f0], [cN b a1 n1 (va_up f1 (k + 1) u)], [cN b a2 n0 f2], [cN b a3 n0 f3], [cN b a4 n4 f4], [cN b a5 n5 f5], [cN b a6 n5 f6], [cN b a7 n5 f7], [cN b a8 257 f8]]) X hw (dat D_Circuit_close 12 rfl) 2 0 rfl rfl (by omega) (by omega) rfl (fun H lo hw => ?_)
  refine r_vret RT (dat D_Circuit_close 13 rfl) ((a0, n0, f0), (a1, n1, va_up f1 (k + 1) u), (a2, n0, f2), (a3, n0, f3), (a4, n4, f4), (a5, n5, f5), (a6, n5, f6), (a7, n5, f7), (a8, 257, f8), u, k + 1, v) ⟨rfl, rfl, rfl, ⟨rfl, rfl, rfl, rfl, rfl, p0, p1, p4, p5, g0, g1, g4, g5⟩, rfl, rfl, rfl, rfl, rfl, rfl, rfl, rfl, fun j hj => up_n (Nat.ne_of_lt hj), up_s, fun _ => rfl, rfl, rfl, rfl, rfl, rfl, rfl⟩ ((hw.pick (NW := 10) (Ws' := [[cO h 2 [.ref a0, .ref a1, .int (nI u), .int (nI (k + 1)), .int (nI v), .ref a2, .ref a3, .ref a4, .ref a5, .ref a6, .ref a7, .ref a8]], [cN b a0 n0 f0], [cN b a1 n1 (va_up f1 (k + 1) u)], [cN b a2 n0 f2], [cN b a3 n0 f3], [cN b a4 n4 f4], [cN b a5 n5 f5], [cN b a6 n5 f6], [cN b a7 n5 f7], [cN b a8 257 f8]]) [0, 1, 2, 3, 4, 5, 6, 7, 8, 9] [] rfl (by decide +kernel) rfl).re rfl)
set_option maxHeartbeats 4000000 in
set_option maxRecDepth 100000 in
/-- one more literal of the clause at hand -/
theorem c_put (l : Launch) (b : BK) (BC BS sz sl : Nat) (h : Nat) (C : CT) (x : Nat) (B1 B2 : Nat) (hB1 : B1 ≤ BS) (hB2 : B2 ≤ BC) (hlen : cLen C) (hb : cBud B1 B2 C sz sl) (hu : cU C ≤ lL C) (hu2 : cU C < 524288) (hk : cK C < 2 ^ 30) (hx : x < 131072) (hocc : Occ (cU C) C) : Con l b y_Circuit_put b_Circuit_put 2 none 3 90 BC BS sz sl [.ref h, .int (nI x)] [circW b h C] (S := CT) (fun r sz' sl' C' => r = none ∧ cLen C' ∧ cBud B1 B2 C' sz' sl' ∧ cU C' = cU C + 1 ∧ cK C' = cK C ∧ (∀ j, j < cU C → fL C' j = fL C j ∧ fC C' j = fC C j) ∧ fL C' (cU C) = x ∧ fC C' (cU C) = cK C ∧ fS C' = fS C ∧ lS C' = lS C ∧ cU C' ≤ lL C' ∧ Occ (cU C') C' ∧ SameG C C') (fun C' => [circW b h C']) := by
  refine con_of (L0 := [(0, .ref h), (1, .int (nI x))]) (by decide) (Nat.le_of_ble_eq_true rfl) rfl ?_
  intro p e R s m args below meth c Q A H lo X hini hw RT
  have X : Ctx p R s m args meth c b_Circuit_put 2 "LoopProver$Circuit" b BC BS sl 3 90 := X
  have hw : Wd b BC BS sl s A [circW b h C] sz sl H lo := hw
  refine r_aldn X (dat D_Circuit_put 0 rfl) rfl 0 rfl ?_
  refine r_callV (NW := 1) (As := []) (st := []) X hw m_Circuit_57 (c_room l b BC BS sz sl h C B1 B2 hB1 hB2 hlen hb hu hu2) (dat D_Circuit_put 1 rfl) [0] [] rfl (by decide +kernel) rfl rfl (hw.recv X 0 0 rfl (circ0 b h C).choose_spec k_Circuit) rfl rfl (Nat.le_of_ble_eq_true rfl) ⟨by decide, by decide⟩ (fun r C1 sz_1 sl_1 H lo hp hw => ?_)
  obtain ⟨rfl, hlen1, hb1, hlt1, hu1, hk1, hj1, hs1, hls1, hp1, hg1⟩ := hp
  refine r_st (st' := []) rfl ?_
  have hw : Wd b BC BS sl s A [circW b h C1] sz_1 sl_1 H lo := hw
  obtain ⟨⟨a0, n0, f0⟩, ⟨a1, n1, f1⟩, ⟨a2, n2, f2⟩, ⟨a3, n3, f3⟩, ⟨a4, n4, f4⟩, ⟨a5, n5, f5⟩, ⟨a6, n6, f6⟩, ⟨a7, n7, f7⟩, ⟨a8, n8, f8⟩, u, k, v⟩ := C1
  dsimp only [cLen, cPhi, cBud, SameG, cU_mk, cK_mk, cV_mk, fL_mk, fS_mk, fC_mk, fN_mk, fP_mk, fF_mk, fG_mk, fH_mk, fD_mk, lL_mk, lS_mk, lP_mk, lF_mk] at hlen1 hb1 hlt1 hu1 hk1 hj1 hs1 hls1 hp1 hg1
  obtain ⟨rfl, rfl, rfl, rfl, rfl, p0, p1, p4, p5, g0, g1, g4, g5⟩ := hlen1
  have q0 := p0.le
  have q1 := p1.le
  have q5 := p5.le
  have hw : Wd b BC BS sl s A [[cO h 2 [.ref a0, .ref a1, .int (nI u), .int (nI k), .int (nI v), .ref a2, .ref a3, .ref a4, .ref a5, .ref a6, .ref a7, .ref a8]], [cN b a0 n0 f0], [cN b a1 n1 f1], [cN b a2 n0 f2], [cN b a3 n0 f3], [cN b a4 n4 f4], [cN b a5 n5 f5], [cN b a6 n5 f6], [cN b a7 n5 f7], [cN b a8 257 f8]] sz_1 sl_1 H lo := hw.re rfl
  have J : ∀ (NN : Nat) (y4 m4 : Nat) (g4' : Nat → Nat) (sz' sl' : Nat) (H : Heap) (lo : List Loc), 131072 - m4 < NN → (Pw m4 131072 ∧ 512 ≤ m4) → (∀ a, (if a < m4 then g4' a else 0) = fP C a) → (sl' + 4325376 ≤ B1 + 2 * (3 * n0 + n1 + m4 + 3 * n5) ∧ 256 * sz' + 4325376 ≤ 256 * B2 + 2 * (3 * n0 + n1 + m4 + 3 * n5)) → Wd b BC BS sl s A [[cO h 2 [.ref a0, .ref a1, .int (nI u), .int (nI k), .int (nI v), .ref a2, .ref a3, .ref y4, .ref a5, .ref a6, .ref a7, .ref a8]], [cN b a0 n0 f0], [cN b a1 n1 f1], [cN b a2 n0 f2], [cN b a3 n0 f3], [cN b y4 m4 g4'], [cN b a5 n5 f5], [cN b a6 n5 f6], [cN b a7 n5 f7], [cN b a8 257 f8]] sz' sl' H lo → V p l e R s m args below meth c Q 2 H lo 4 [(0, .ref h), (1, .int (nI x))] [] := by
    intro NN
    induction NN with
    | zero =>
      intro y4 m4 g4' sz' sl' H lo hNN
      exact absurd hNN (by omega)
    | succ NN ih =>
      intro y4 m4 g4' sz' sl' H lo hNN hm hg hbb hw
      have qm := hm.1.le
      refine r_ildn X (dat D_Circuit_put 2 rfl) rfl 1 rfl ?_
      refine r_aldn X (dat D_Circuit_put 3 rfl) rfl 0 rfl ?_
      refine r_get X hw f_Circuit_24 (dat D_Circuit_put 4 rfl) 0 0 rfl rfl rfl ?_
      refine r_alen X hw (dat D_Circuit_put 5 rfl) 5 0 0 rfl rfl rfl ?_
      refine r_icmplt (tgt := 27) X (nI_ltI (by omega) (by omega)) (dat D_Circuit_put 6 rfl) rfl (fun hc => ?_) (fun hc => ?_)
      · refine r_aldn X (dat D_Circuit_put 13 rfl) rfl 0 rfl ?_
        refine r_get X hw f_Circuit_9 (dat D_Circuit_put 14 rfl) 0 0 rfl rfl rfl ?_
        refine r_aldn X (dat D_Circuit_put 15 rfl) rfl 0 rfl ?_
        refine r_get X hw f_Circuit_39 (dat D_Circuit_put 16 rfl) 0 0 rfl rfl rfl ?_
        refine r_ildn X (dat D_Circuit_put 17 rfl) rfl 1 rfl ?_
        refine r_iastN (Ws' := [[cO h 2 [.ref a0, .ref a1, .int (nI u), .int (nI k), .int (nI v), .ref a2, .ref a3, .ref y4, .ref a5, .ref a6, .ref a7, .ref a8]], [cN b a0 n0 (va_up f0 u x)], [cN b a1 n1 f1], [cN b a2 n0 f2], [cN b a3 n0 f3], [cN b y4 m4 g4'], [cN b a5 n5 f5], [cN b a6 n5 f6], [cN b a7 n5 f7], [cN b a8 257 f8]]) X hw (dat D_Circuit_put 18 rfl) 1 0 rfl rfl (by omega) (by omega) rfl (fun H lo hw => ?_)
        refine r_aldn X (dat D_Circuit_put 19 rfl) rfl 0 rfl ?_
        refine r_get X hw f_Circuit_18 (dat D_Circuit_put 20 rfl) 0 0 rfl rfl rfl ?_
        refine r_aldn X (dat D_Circuit_put 21 rfl) rfl 0 rfl ?_
        refine r_get X hw f_Circuit_39 (dat D_Circuit_put 22 rfl) 0 0 rfl rfl rfl ?_
        refine r_aldn X (dat D_Circuit_put 23 rfl) rfl 0 rfl ?_
        refine r_get X hw f_Circuit_43 (dat D_Circuit_put 24 rfl) 0 0 rfl rfl rfl ?_
        refine r_iastN (Ws' := [[cO h 2 [.ref a0, .ref a1, .int (nI u), .int (nI k), .int (nI v), .ref a2, .ref a3, .ref y4, .ref a5, .ref a6, .ref a7, .ref a8]], [cN b a0 n0 (va_up f0 u x)], [cN b a1 n1 f1], [cN b a2 n0 (va_up f2 u k)], [cN b a3 n0 f3], [cN b y4 m4 g4'], [cN b a5 n5 f5], [cN b a6 n5 f6], [cN b a7 n5 f7], [cN b a8 257 f8]]) X hw (dat D_Circuit_put 25 rfl) 3 0 rfl rfl (by omega) (by omega) rfl (fun H lo hw => ?_)
        refine r_aldn X (dat D_Circuit_put 26 rfl) rfl 0 rfl ?_
        refine r_get X hw f_Circuit_21 (dat D_Circuit_put 27 rfl) 0 0 rfl rfl rfl ?_
        refine r_aldn X (dat D_Circuit_put 28 rfl) rfl 0 rfl ?_
        refine r_get X hw f_Circuit_39 (dat D_Circuit_put 29 rfl) 0 0 rfl rfl rfl ?_
        refine r_aldn X (dat D_Circuit_put 30 rfl) rfl 0 rfl ?_
        refine r_get X hw f_Circuit_24 (dat D_Circuit_put 31 rfl) 0 0 rfl rfl rfl ?_
        refine r_ildn X (dat D_Circuit_put 32 rfl) rfl 1 rfl ?_
        refine r_ialdN X hw (dat D_Circuit_put 33 rfl) 5 0 rfl rfl (by omega) (by omega) ?_
        refine r_iastN (Ws' := [[cO h 2 [.ref a0, .ref a1, .int (nI u), .int (nI k), .int (nI v), .ref a2, .ref a3, .ref y4, .ref a5, .ref a6, .ref a7, .ref a8]], [cN b a0 n0 (va_up f0 u x)], [cN b a1 n1 f1], [cN b a2 n0 (va_up f2 u k)], [cN b a3 n0 (va_up f3 u (g4' x))], [cN b y4 m4 g4'], [cN b a5 n5 f5], [cN b a6 n5 f6], [cN b a7 n5 f7], [cN b a8 257 f8]]) X hw (dat D_Circuit_put 34 rfl) 4 0 rfl rfl (by omega) (by omega) rfl (fun H lo hw => ?_)
        refine r_aldn X (dat D_Circuit_put 35 rfl) rfl 0 rfl ?_
        refine r_dup X (dat D_Circuit_put 36 rfl) rfl ?_
        refine r_get X hw f_Circuit_39 (dat D_Circuit_put 37 rfl) 0 0 rfl rfl rfl ?_
        refine r_iconst (v := nI 1) X (dat D_Circuit_put 38 rfl) rfl ?_
        refine r_iadd (z := nI (u + 1)) X (dat D_Circuit_put 39 rfl) (nI_add _ _) ?_
        refine r_put (Ws' := [[cO h 2 [.ref a0, .ref a1, .int (nI (u + 1)), .int (nI k), .int (nI v), .ref a2, .ref a3, .ref y4, .ref a5, .ref a6, .ref a7, .ref a8]], [cN b a0 n0 (va_up f0 u x)], [cN b a1 n1 f1], [cN b a2 n0 (va_up f2 u k)], [cN b a3 n0 (va_up f3 u (g4' x))], [cN b y4 m4 g4'], [cN b a5 n5 f5], [cN b a6 n5 f6], [cN b a7 n5 f7], [cN b a8 257 f8]]) X hw f_Circuit_39 (dat D_Circuit_put 40 rfl) 0 0 rfl rfl rfl rfl rfl (Nat.le_of_ble_eq_true rfl) rfl (fun H lo hw => ?_)
        refine r_aldn X (dat D_Circuit_put 41 rfl) rfl 0 rfl ?_
        refine r_get X hw f_Circuit_24 (dat D_Circuit_put 42 rfl) 0 0 rfl rfl rfl ?_
        refine r_ildn X (dat D_Circuit_put 43 rfl) rfl 1 rfl ?_
        refine r_aldn X (dat D_Circuit_put 44 rfl) rfl 0 rfl ?_
        refine r_get X hw f_Circuit_39 (dat D_Circuit_put 45 rfl) 0 0 rfl rfl rfl ?_
        refine r_iastN (Ws' := [[cO h 2 [.ref a0, .ref a1, .int (nI (u + 1)), .int (nI k), .int (nI v), .ref a2, .ref a3, .ref y4, .ref a5, .ref a6, .ref a7, .ref a8]], [cN b a0 n0 (va_up f0 u x)], [cN b a1 n1 f1], [cN b a2 n0 (va_up f2 u k)], [cN b a3 n0 (va_up f3 u (g4' x))], [cN b y4 m4 (va_up g4' x (u + 1))], [cN b a5 n5 f5], [cN b a6 n5 f6], [cN b a7 n5 f7], [cN b a8 257 f8]]) X hw (dat D_Circuit_put 46 rfl) 5 0 rfl rfl (by omega) (by omega) rfl (fun H lo hw => ?_)
        have hgx : g4' x = fP C x := by rw [← hg x, if_pos hc]
        have ho := Occ_put (x := x) (lit' := va_up f0 u x) (nxt' := va_up f3 u (g4' x)) (pl' := fun a => if a = x then u + 1 else fP C a) hocc.1 hocc.2 (fun j hj => (up_n (by omega)).trans (hj1 j hj).1) (by rw [← hu1]; exact up_s) (fun j hj => (up_n (by omega)).trans (hj1 j hj).2.2) (by rw [← hu1, ← hgx]; exact up_s) (fun a => by rw [hu1])
        rw [← hu1] at ho
        refine r_vret RT (dat D_Circuit_put 47 rfl) ((a0, n0, va_up f0 u x), (a1, n1, f1), (a2, n0, va_up f2 u k), (a3, n0, va_up f3 u (g4' x)), (y4, m4, va_up g4' x (u + 1)), (a5, n5, f5), (a6, n5, f6), (a7, n5, f7), (a8, 257, f8), u + 1, k, v) ⟨rfl, ⟨rfl, rfl, rfl, rfl, rfl, p0, p1, hm.1, p5, g0, g1, hm.2, g5⟩, hbb, ?_, hk1, fun j hj => ⟨?_, ?_⟩, ?_, ?_, hs1, hls1, ?_, ⟨?_, ?_⟩, hg1⟩ ((hw.pick (NW := 10) (Ws' := [[cO h 2 [.ref a0, .ref a1, .int (nI (u + 1)), .int (nI k), .int (nI v), .ref a2, .ref a3, .ref y4, .ref a5, .ref a6, .ref a7, .ref a8]], [cN b a0 n0 (va_up f0 u x)], [cN b a1 n1 f1], [cN b a2 n0 (va_up f2 u k)], [cN b a3 n0 (va_up f3 u (g4' x))], [cN b y4 m4 (va_up g4' x (u + 1))], [cN b a5 n5 f5], [cN b a6 n5 f6], [cN b a7 n5 f7], [cN b a8 257 f8]]) [0, 1, 2, 3, 4, 5, 6, 7, 8, 9] [] rfl (by decide +kernel) rfl).re rfl)
        · show u + 1 = cU C + 1
          omega
        · exact (up_n (by omega)).trans (hj1 j hj).1
        · exact (up_n (by omega)).trans (hj1 j hj).2.1
        · rw [← hu1]
          exact up_s
        · rw [← hu1]
          exact up_s.trans hk1
        · show u + 1 ≤ n0
          omega
        · intro a
          show (if a < m4 then va_up g4' x (u + 1) a else 0) = prv (va_up f0 u x) a (u + 1)
          rw [← ho.1 a]
          by_cases e : a = x
          · subst e
            rw [if_pos hc, if_pos rfl]
            exact up_s
          · rw [if_neg e, ← hg a]
            by_cases e2 : a < m4
            · rw [if_pos e2, if_pos e2]
              exact up_n e
            · rw [if_neg e2, if_neg e2]
        · intro j hj
          show va_up f3 u (g4' x) j = prv (va_up f0 u x) (va_up f0 u x j) j
          exact ho.2 j hj
      · have hn4 : m4 < 131072 := by omega
        have hd := hm.1.le2 hn4
        refine r_aldn X (dat D_Circuit_put 7 rfl) rfl 0 rfl ?_
        refine r_aldn X (dat D_Circuit_put 8 rfl) rfl 0 rfl ?_
        refine r_get X hw f_Circuit_24 (dat D_Circuit_put 9 rfl) 0 0 rfl rfl rfl ?_
        refine r_callS (NW := 10) (As := [.ref y4]) (st := [.ref h]) X hw m_Circuit_53 (c_longer l b BC BS sz' sl' y4 m4 g4' (by omega) (by omega) (by omega)) (dat D_Circuit_put 10 rfl) [5] [0, 1, 2, 3, 4, 6, 7, 8, 9] rfl (by decide +kernel) rfl rfl rfl rfl (Nat.le_of_ble_eq_true rfl) ⟨by decide, by decide⟩ (fun r x4 sz_2 sl_2 H lo hp hw => ?_)
        obtain ⟨rfl, rfl, rfl, hx4⟩ := hp
        refine r_st (st' := [.ref sz', .ref h]) rfl ?_
        have hw : Wd b BC BS sl s A [[cN b y4 m4 g4'], [cN b sz' (2 * m4) x4], [cO h 2 [.ref a0, .ref a1, .int (nI u), .int (nI k), .int (nI v), .ref a2, .ref a3, .ref y4, .ref a5, .ref a6, .ref a7, .ref a8]], [cN b a0 n0 f0], [cN b a1 n1 f1], [cN b a2 n0 f2], [cN b a3 n0 f3], [cN b a5 n5 f5], [cN b a6 n5 f6], [cN b a7 n5 f7], [cN b a8 257 f8]] (sz' + 1) (sl' + 2 * m4) H lo := hw
        refine r_put (Ws' := [[cN b y4 m4 g4'], [cN b sz' (2 * m4) x4], [cO h 2 [.ref a0, .ref a1, .int (nI u), .int (nI k), .int (nI v), .ref a2, .ref a3, .ref sz', .ref a5, .ref a6, .ref a7, .ref a8]], [cN b a0 n0 f0], [cN b a1 n1 f1], [cN b a2 n0 f2], [cN b a3 n0 f3], [cN b a5 n5 f5], [cN b a6 n5 f6], [cN b a7 n5 f7], [cN b a8 257 f8]]) X hw f_Circuit_24 (dat D_Circuit_put 11 rfl) 2 0 rfl rfl rfl rfl rfl (Nat.le_of_ble_eq_true rfl) rfl (fun H lo hw => ?_)
        refine r_goto (tgt := 4) X (dat D_Circuit_put 12 rfl) rfl ?_
        have hw : Wd b BC BS sl s A [[cO h 2 [.ref a0, .ref a1, .int (nI u), .int (nI k), .int (nI v), .ref a2, .ref a3, .ref sz', .ref a5, .ref a6, .ref a7, .ref a8]], [cN b a0 n0 f0], [cN b a1 n1 f1], [cN b a2 n0 f2], [cN b a3 n0 f3], [cN b sz' (2 * m4) x4], [cN b a5 n5 f5], [cN b a6 n5 f6], [cN b a7 n5 f7], [cN b a8 257 f8]] (sz' + 1) (sl' + 2 * m4) H lo := hw.pick (NW := 11) [2, 3, 4, 5, 6, 1, 7, 8, 9, 10] [0] rfl (by decide +kernel) rfl
        exact ih _ _ _ _ _ H lo (by omega) ⟨hm.1.dbl hn4, by omega⟩ (fun a => by
          rw [← hg a, hx4]
          by_cases e : a < m4
          · rw [if_pos e, if_pos (by omega)]
          · rw [if_neg e]
            split <;> rfl) (by omega) hw
  exact J (131072 - n4 + 1) a4 n4 f4 _ _ H lo (by omega) ⟨p4, g4⟩ hp1 hb1 hw
