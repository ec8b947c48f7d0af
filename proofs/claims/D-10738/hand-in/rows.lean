section
/-! The law's last row: given what each call answered, it answers 1. -/
/-- the level that operator j has at first -/
def mx_own (j : Nat) : Nat := if j < 6 then j / 2 else j - 3
theorem mx_own5 : ∀ j, j < 8 → mx_own j < 5 := by decide
theorem mx_54 (k : Int32) : 5 ≤ k ↔ 4 < k := by
  rw [Int32.le_iff_toInt_le, Int32.lt_iff_toInt_lt]
  have e5 : (5 : Int32).toInt = 5 := by decide
  have e4 : (4 : Int32).toInt = 4 := by decide
  rw [e5, e4]
  omega
theorem mx_nle {x y : Int32} (h : ¬ x ≤ y) : y < x := Int32.not_le.mp h
theorem mx_nlt {x y : Int32} (h : x ≤ y) : ¬ y < x := Int32.not_lt.mpr h
/-- what level(k, kind) answers on a new reader -/
def mx_FL (k kind r : Int32) : Prop := ((k < 0 ∨ 4 < k ∨ kind < 0 ∨ 4 < kind) → r = -1) ∧ (¬ k < 0 → ¬ 4 < k → ¬ kind < 0 → ¬ 4 < kind → r = 0)
/-- what operator(o, k, meaning) answers on a new reader -/
def mx_FO (o k m r : Int32) : Prop := ((o < 0 ∨ 7 < o ∨ k < 0 ∨ 4 < k ∨ m < 0 ∨ 3 < m) → r = -1) ∧ (¬ o < 0 → ¬ 7 < o → ¬ k < 0 → ¬ 4 < k → ¬ m < 0 → ¬ 3 < m → (6 ≤ o → r = o - 3) ∧ (¬ 6 ≤ o → r = o / 2))
/-- strength x9, depth x10 and untoken x11, by in (x12) and number (x13) -/
def mx_T (x0 x1 x9 x10 x11 x12 x13 : Int32) : Prop := (x13 = 0 → x9 = -4) ∧ (¬ x13 = 0 → x9 = 5) ∧ (x13 = 0 → x10 = -4) ∧ (¬ x13 = 0 → x1 = 0 → x10 = 0) ∧ (¬ x13 = 0 → ¬ x1 = 0 → x10 = -4) ∧ (x12 = 0 → x11 = -4) ∧ (¬ x12 = 0 → x11 = x0)
section
variable {post : Int32 → St0 → Prop} {mc ms kc ks : Nat} {x0 x1 x2 x3 x4 x6 x7 x8 x9 x10 x11 x12 x13 x14 x15 z0 z1 : Int32}
theorem mx_236 (hp : post 1 ()) (e : z1 = z0) (g0 : x12 = 0 → x11 = -4) (g1 : ¬ x12 = 0 → x11 = x0) : wL_lawOf_236 post mc ms x0 x11 x12 z0 z1 kc ks :=
  br_t e (br_c (fun h => br_t (g0 h) hp) (fun h => br_t (g1 h) hp))
theorem mx_200 (hp : post 1 ()) (e : z1 = z0) (t : mx_T x0 x1 x9 x10 x11 x12 x13) : wL_lawOf_200 post mc ms x0 x1 x9 x10 x11 x12 x13 z0 z1 kc ks := by
  obtain ⟨s0, s1, d0, d1, d2, g0, g1⟩ := t
  have h216 : ∀ w : Int32, x9 = w → wL_lawOf_216 post mc ms x0 x1 x10 x11 x12 x13 w x9 kc ks := fun w hw =>
    br_t hw (br_c (fun h => mx_236 hp (d0 h) g0 g1) (fun h => br_c (fun h1 => mx_236 hp (d1 h h1) g0 g1) (fun h1 => mx_236 hp (d2 h h1) g0 g1)))
  exact br_t e (br_c (fun h => h216 _ (s0 h)) (fun h => h216 _ (s1 h)))
theorem mx_163 (hp : post 1 ()) (e : z1 = z0) (t : mx_T x0 x1 x9 x10 x11 x12 x13)
    (l0 : (x3 < 0 ∨ 7 < x3 ∨ x14 = 0 ∨ x4 < 0 ∨ 3 < x4) → x8 = -1) (l1 : ¬ x3 < 0 → ¬ 7 < x3 → ¬ x14 = 0 → ¬ x4 < 0 → ¬ 3 < x4 → x8 = x15) :
    wL_lawOf_163 post mc ms x0 x1 x3 x4 x8 x9 x10 x11 x12 x13 x14 x15 z0 z1 kc ks :=
  br_t e (br_c (fun h => mx_200 hp (l0 (Or.inl h)) t) (fun h1 => br_c (fun h => mx_200 hp (l0 (Or.inr (Or.inl h))) t) (fun h2 => br_c (fun h => mx_200 hp (l0 (Or.inr (Or.inr (Or.inl h)))) t) (fun h3 =>
    br_c (fun h => mx_200 hp (l0 (Or.inr (Or.inr (Or.inr (Or.inl h))))) t) (fun h4 => br_c (fun h => mx_200 hp (l0 (Or.inr (Or.inr (Or.inr (Or.inr h))))) t) (fun h5 => mx_200 hp (l1 h1 h2 h3 h4 h5) t))))))
theorem mx_125 (hp : post 1 ()) (t : mx_T x0 x1 x9 x10 x11 x12 x13) (i0 : x12 = 0 → x6 = -1) (i1 : ¬ x12 = 0 → x6 = 1)
    (o0 : (x14 = 0 ∨ x2 < 0 ∨ 4 < x2) → x7 = -1) (o1 : ¬ x14 = 0 → ¬ x2 < 0 → ¬ 4 < x2 → x7 = 0)
    (l0 : (x3 < 0 ∨ 7 < x3 ∨ x14 = 0 ∨ x4 < 0 ∨ 3 < x4) → x8 = -1) (l1 : ¬ x3 < 0 → ¬ 7 < x3 → ¬ x14 = 0 → ¬ x4 < 0 → ¬ 3 < x4 → x8 = z0) :
    wL_lawOf_125 post mc ms x0 x1 x2 x3 x4 x6 x7 x8 x9 x10 x11 x12 x13 x14 z0 kc ks := by
  have h139 : ∀ w : Int32, x6 = w → wL_lawOf_139 post mc ms x0 x1 x2 x3 x4 x7 x8 x9 x10 x11 x12 x13 x14 z0 w x6 kc ks := fun w hw =>
    br_t hw (br_c (fun h => mx_163 hp (o0 (Or.inl h)) t l0 l1) (fun h1 => br_c (fun h => mx_163 hp (o0 (Or.inr (Or.inl h))) t l0 l1) (fun h2 =>
      br_c (fun h => mx_163 hp (o0 (Or.inr (Or.inr h))) t l0 l1) (fun h3 => mx_163 hp (o1 h1 h2 h3) t l0 l1))))
  exact br_c (fun h => h139 _ (i0 h)) (fun h => h139 _ (i1 h))
theorem mx_108 (hp : post 1 ()) (t : mx_T x0 x1 x9 x10 x11 x12 x13) (i0 : x12 = 0 → x6 = -1) (i1 : ¬ x12 = 0 → x6 = 1)
    (o0 : (z0 = 0 ∨ x2 < 0 ∨ 4 < x2) → x7 = -1) (o1 : ¬ z0 = 0 → ¬ x2 < 0 → ¬ 4 < x2 → x7 = 0)
    (l0 : (x3 < 0 ∨ 7 < x3 ∨ z0 = 0 ∨ x4 < 0 ∨ 3 < x4) → x8 = -1) (l1 : ¬ x3 < 0 → ¬ 7 < x3 → ¬ z0 = 0 → ¬ x4 < 0 → ¬ 3 < x4 → (6 ≤ x3 → x8 = x3 - 3) ∧ (¬ 6 ≤ x3 → x8 = x3 / 2)) :
    wL_lawOf_108 post mc ms x0 x1 x2 x3 x4 x6 x7 x8 x9 x10 x11 x12 x13 z0 kc ks :=
  br_c (fun h => mx_125 hp t i0 i1 o0 o1 l0 (fun a b c d e => (l1 a b c d e).1 h)) (fun h => ⟨by decide, mx_125 hp t i0 i1 o0 o1 l0 (fun a b c d e => (l1 a b c d e).2 h)⟩)
theorem mx_92 (hp : post 1 ()) (t : mx_T x0 x1 x9 x10 x11 x12 z0) (i0 : x12 = 0 → x6 = -1) (i1 : ¬ x12 = 0 → x6 = 1) (F7 : mx_FL x1 x2 x7) (F8 : mx_FO x3 x1 x4 x8) :
    wL_lawOf_92 post mc ms x0 x1 x2 x3 x4 x6 x7 x8 x9 x10 x11 x12 z0 kc ks := by
  have h107 : (x1 < 0 ∨ 4 < x1) → wL_lawOf_108 post mc ms x0 x1 x2 x3 x4 x6 x7 x8 x9 x10 x11 x12 z0 0 kc ks := fun h =>
    mx_108 hp t i0 i1 (fun _ => F7.1 (h.elim Or.inl (fun g => Or.inr (Or.inl g)))) (fun g => absurd rfl g)
      (fun _ => F8.1 (h.elim (fun g => Or.inr (Or.inr (Or.inl g))) (fun g => Or.inr (Or.inr (Or.inr (Or.inl g)))))) (fun _ _ g => absurd rfl g)
  refine br_c (fun h => h107 (Or.inl h)) (fun k1 => br_c (fun h => h107 (Or.inr h)) (fun k2 => ?_))
  refine mx_108 hp t i0 i1 (fun h => ?_) (fun _ a b => F7.2 k1 k2 a b) (fun h => ?_) (fun a b _ c d => F8.2 a b k1 k2 c d)
  · rcases h with h | h | h
    · exact absurd h (by decide)
    · exact F7.1 (Or.inr (Or.inr (Or.inl h)))
    · exact F7.1 (Or.inr (Or.inr (Or.inr h)))
  · rcases h with h | h | h | h | h
    · exact F8.1 (Or.inl h)
    · exact F8.1 (Or.inr (Or.inl h))
    · exact absurd h (by decide)
    · exact F8.1 (Or.inr (Or.inr (Or.inr (Or.inr (Or.inl h)))))
    · exact F8.1 (Or.inr (Or.inr (Or.inr (Or.inr (Or.inr h)))))
theorem mx_74 (hp : post 1 ()) (t0 : z0 = 0 ∨ 10 ≤ x0 → mx_T x0 x1 x9 x10 x11 z0 0) (t1 : ¬ z0 = 0 → ¬ 10 ≤ x0 → mx_T x0 x1 x9 x10 x11 z0 1)
    (i0 : z0 = 0 → x6 = -1) (i1 : ¬ z0 = 0 → x6 = 1) (F7 : mx_FL x1 x2 x7) (F8 : mx_FO x3 x1 x4 x8) :
    wL_lawOf_74 post mc ms x0 x1 x2 x3 x4 x6 x7 x8 x9 x10 x11 z0 kc ks :=
  br_c (fun h => mx_92 hp (t0 (Or.inl h)) i0 i1 F7 F8) (fun h => br_c (fun g => mx_92 hp (t0 (Or.inr g)) i0 i1 F7 F8) (fun g => mx_92 hp (t1 h g) i0 i1 F7 F8))
end
end
section
/-! The constructor, token, level, operator, untoken. -/
theorem mx_v0 {n : Nat} (h : 0 < n) (hn : n < 2 ^ 31) : vp_in 0 n := pk_in 0 n h
theorem mx_c0 : (0 : Int32).toNatClampNeg = 0 := by decide
theorem mx_fill {f : Nat → Nat} {s : Nat → Int32} {i k : Nat} {x : Int32} (hk : k = i) (h : ∀ j, j < i → s j = nI (f j)) (hx : x = nI (f i)) : ∀ j, j < i + 1 → upd s k x j = nI (f j) := by
  intro j hj
  rw [hk]
  by_cases e : j = i
  · rw [e, pk_us, hx]
  · rw [pk_un e]
    exact h j (by omega)
/-- the levels: all below 5 -/
def mx_Lv (a : Nat → Int32) : Prop := ∀ j, j < 8 → ∃ q, q < 5 ∧ a j = nI q
section
variable {f0 f1 f2 f3 f4 f5 : Int32} {a1 a2 a3 a4 a5 a6 a7 a8 a9 a10 a11 a12 a13 a14 : Nat → Int32}
theorem mx_117 {post : St2 → Prop} {mc ms kc ks : Nat} (H : ∀ lv mn : Nat → Int32, (∀ j, j < 8 → lv j = nI (mx_own j)) → post (f0, f1, f2, f3, f4, f5, a1, lv, mn, a4, a5, a6, a7, a8, a9, a10, a11, a12, a13, a14)) :
    ∃ n, wX_init_117 post mc ms kc ks f0 f1 f2 f3 f4 f5 n 0 a1 a2 a3 a4 a5 a6 a7 a8 a9 a10 a11 a12 a13 a14 := by
  refine pk_loop (fun n i (s : (Nat → Int32) × (Nat → Int32)) => wX_init_117 post mc ms kc ks f0 f1 f2 f3 f4 f5 n (nI i) a1 s.1 s.2 a4 a5 a6 a7 a8 a9 a10 a11 a12 a13 a14) (fun i s => ∀ j, j < i → s.1 j = nI (mx_own j)) 8 0 (a2, a3) (by omega) (fun j hj => absurd hj (by omega)) ?_ ?_
  · exact fun n s h => pk_le 8 8 (fun _ => H s.1 s.2 h) (fun z => absurd z (by omega))
  · intro n i s hi h hw
    have h143 : ∀ z : Int32, z = nI (mx_own i) → wX_init_143 post mc ms (wX_init_117 post mc ms kc ks f0 f1 f2 f3 f4 f5 n) (nI i) z (nI i) kc ks f0 f1 f2 f3 f4 f5 a1 s.1 s.2 a4 a5 a6 a7 a8 a9 a10 a11 a12 a13 a14 := fun z hz =>
      ⟨pk_in i 8 hi, nm_e ⟨pk_in i 8 hi, nm_e (nm_r (nI_1 i) (hw (_, _) (mx_fill (nI_clamp (by omega)) h hz)))⟩⟩
    refine pk_le 8 i (fun z => absurd z (by omega)) (fun _ => pk_le 6 i (fun z => h143 _ ?_) (fun z => ⟨by decide, h143 _ ?_⟩))
    · have e : mx_own i = i - 3 := if_neg (by omega)
      rw [e]
      exact pk_sub (a := i) (b := 3) (by omega)
    · have e : mx_own i = i / 2 := if_pos z
      rw [e]
      exact pk_div (a := i) (d := 2) (by omega) (by omega) (by omega)
theorem mx_init {post : St2 → Prop} {mc ms : Nat} (hc : 14 ≤ mc) (hs : 197 ≤ ms)
    (H : ∀ lv mn : Nat → Int32, (∀ j, j < 8 → lv j = nI (mx_own j)) → post (f0, f1, f2, f3, f4, f5, (fun _ => 0), lv, mn, (fun _ => 0), (fun _ => 0), (fun _ => 0), (fun _ => 0), (fun _ => 0), (fun _ => 0), (fun _ => 0), (fun _ => 0), (fun _ => 0), (fun _ => 0), (fun _ => 0))) :
    wpX_init post mc ms (f0, f1, f2, f3, f4, f5) :=
  ⟨by omega, by omega, by omega, by omega, by omega, by omega, by omega, by omega, by omega, by omega, by omega, by omega, by omega, by omega, by omega, by omega, by omega, by omega, by omega, by omega, by omega, by omega, by omega, by omega, by omega, by omega, by omega, by omega, mx_117 H⟩
theorem mx_token {post : Int32 → St2 → Prop} {p : Int32} (H0 : (p < 0 ∨ 19 < p) → post (-1) (0, f1, f2, f3, f4, f5, a1, a2, a3, a4, a5, a6, a7, a8, a9, a10, a11, a12, a13, a14))
    (H1 : ∀ q, q ≤ 19 → p = nI q → post 1 (1, f1, f2, f3, f4, f5, a1, a2, a3, upd a4 0 p, a5, a6, a7, a8, a9, a10, a11, a12, a13, a14)) : wpX_token post (0, f1, f2, f3, f4, f5, a1, a2, a3, a4, a5, a6, a7, a8, a9, a10, a11, a12, a13, a14) p := by
  refine br_c (fun h => H0 (Or.inl h)) (fun h => br_c (fun g => br_f (by decide) ⟨mx_v0 (by omega) (by omega), ?_⟩) (fun g => H0 (Or.inr (mx_nle g))))
  obtain ⟨q, hq, e⟩ := nI_of2 (M := 19) (n := 19) (by decide) h g
  exact nm_r (by rw [mx_c0]) (nm_r (show (0 : Int32) + 1 = 1 by decide) (H1 q hq e))
theorem mx_level {post : Int32 → St2 → Prop} {k d : Int32} (hz : ∀ j, a1 j = 0) (H : ∀ (r : Int32) (b : Nat → Int32), mx_FL k d r → post r (f0, f1, f2, f3, f4, f5, b, a2, a3, a4, a5, a6, a7, a8, a9, a10, a11, a12, a13, a14)) :
    wpX_level post (f0, f1, f2, f3, f4, f5, a1, a2, a3, a4, a5, a6, a7, a8, a9, a10, a11, a12, a13, a14) k d := by
  have bad : (k < 0 ∨ 4 < k ∨ d < 0 ∨ 4 < d) → post (-1) (f0, f1, f2, f3, f4, f5, a1, a2, a3, a4, a5, a6, a7, a8, a9, a10, a11, a12, a13, a14) := fun h =>
    H (-1) a1 ⟨fun _ => rfl, fun h1 h2 h3 h4 => absurd h (fun g => g.elim h1 (fun g => g.elim h2 (fun g => g.elim h3 h4)))⟩
  refine br_c (fun h => bad (Or.inl h)) (fun h1 => br_c (fun h => bad (Or.inr (Or.inl ((mx_54 k).mp h)))) (fun h2 => br_c (fun h => bad (Or.inr (Or.inr (Or.inl h)))) (fun h3 => br_c (fun h4 => ?_) (fun h => bad (Or.inr (Or.inr (Or.inr (mx_nle h))))))))
  have h2' : ¬ 4 < k := fun g => h2 ((mx_54 k).mpr g)
  obtain ⟨q, hq, e⟩ := nI_of2 (x := k) (M := 4) (n := 4) (by decide) h1 (Int32.not_lt.mp h2')
  have hin : vp_in k 5 := pk_in q 5 (by omega) e
  refine ⟨hin, nm_r (hz _) ⟨hin, nm_e (H 0 _ ⟨fun g => ?_, fun _ _ _ _ => rfl⟩)⟩⟩
  exact absurd g (fun g => g.elim h1 (fun g => g.elim h2' (fun g => g.elim h3 (mx_nlt h4))))
theorem mx_oper {post : Int32 → St2 → Prop} {o k m : Int32} (hl : ∀ j, j < 8 → a2 j = nI (mx_own j)) (H : ∀ (r : Int32) (b c : Nat → Int32), mx_Lv b → mx_FO o k m r → post r (f0, f1, f2, f3, f4, f5, a1, b, c, a4, a5, a6, a7, a8, a9, a10, a11, a12, a13, a14)) :
    wpX_operator post (f0, f1, f2, f3, f4, f5, a1, a2, a3, a4, a5, a6, a7, a8, a9, a10, a11, a12, a13, a14) o k m := by
  have hlv : mx_Lv a2 := fun j hj => ⟨mx_own j, mx_own5 j hj, hl j hj⟩
  have bad : (o < 0 ∨ 7 < o ∨ k < 0 ∨ 4 < k ∨ m < 0 ∨ 3 < m) → post (-1) (f0, f1, f2, f3, f4, f5, a1, a2, a3, a4, a5, a6, a7, a8, a9, a10, a11, a12, a13, a14) := fun h =>
    H (-1) a2 a3 hlv ⟨fun _ => rfl, fun h1 h2 h3 h4 h5 h6 => absurd h (fun g => g.elim h1 (fun g => g.elim h2 (fun g => g.elim h3 (fun g => g.elim h4 (fun g => g.elim h5 h6)))))⟩
  refine br_c (fun h => bad (Or.inl h)) (fun h1 => br_c (fun h => bad (Or.inr (Or.inl h))) (fun h2 => br_c (fun h => bad (Or.inr (Or.inr (Or.inl h)))) (fun h3 => br_c (fun h => bad (Or.inr (Or.inr (Or.inr (Or.inl ((mx_54 k).mp h)))))) (fun h4 =>
    br_c (fun h => bad (Or.inr (Or.inr (Or.inr (Or.inr (Or.inl h)))))) (fun h5 => br_c (fun h6 => ?_) (fun h => bad (Or.inr (Or.inr (Or.inr (Or.inr (Or.inr (mx_nle h))))))))))))
  have h4' : ¬ 4 < k := fun g => h4 ((mx_54 k).mpr g)
  obtain ⟨q, hq, e⟩ := nI_of2 (x := k) (M := 4) (n := 4) (by decide) h3 (Int32.not_lt.mp h4')
  obtain ⟨j, hj, e2⟩ := nI_of2 (x := o) (M := 7) (n := 7) (by decide) h1 (Int32.not_lt.mp h2)
  have hin : vp_in o 8 := pk_in j 8 (by omega) e2
  have hc : o.toNatClampNeg = j := pk_cl j e2
  refine ⟨hin, nm_r (show a2 o.toNatClampNeg = nI (mx_own j) by rw [hc]; exact hl j (by omega)) ⟨hin, nm_e ⟨hin, nm_e (H _ _ _ (fun i hi => ?_) ⟨fun g => ?_, fun _ _ _ _ _ _ => ⟨fun g => ?_, fun g => ?_⟩⟩)⟩⟩⟩
  · rw [hc]
    by_cases ei : i = j
    · rw [ei, pk_us]
      exact ⟨q, by omega, e⟩
    · rw [pk_un ei]
      exact hlv i hi
  · exact absurd g (fun g => g.elim h1 (fun g => g.elim h2 (fun g => g.elim h3 (fun g => g.elim h4' (fun g => g.elim h5 (mx_nlt h6))))))
  · rw [e2] at g ⊢
    have z : 6 ≤ j := (nI_leI (a := 6) (b := j) (by omega) (by omega)).mp g
    have e3 : mx_own j = j - 3 := if_neg (by omega)
    rw [e3]
    exact (pk_sub (a := j) (b := 3) (by omega)).symm
  · rw [e2] at g ⊢
    have z : j < 6 := Nat.lt_of_not_le (fun w => g (nI_le (a := 6) (b := j) w (by omega)))
    have e3 : mx_own j = j / 2 := if_pos z
    rw [e3]
    exact (pk_div (a := j) (d := 2) (by omega) (by omega) (by omega)).symm
theorem mx_unt0 {post : Int32 → St2 → Prop} (hp : post (-4) (0, f1, f2, f3, f4, f5, a1, a2, a3, a4, a5, a6, a7, a8, a9, a10, a11, a12, a13, a14)) : wpX_untoken post (0, f1, f2, f3, f4, f5, a1, a2, a3, a4, a5, a6, a7, a8, a9, a10, a11, a12, a13, a14) := br_t rfl hp
theorem mx_unt1 {post : Int32 → St2 → Prop} {p : Int32} (ht : a4 0 = p) (hp : post p (0, f1, f2, f3, f4, f5, a1, a2, a3, a4, a5, a6, a7, a8, a9, a10, a11, a12, a13, a14)) : wpX_untoken post (1, f1, f2, f3, f4, f5, a1, a2, a3, a4, a5, a6, a7, a8, a9, a10, a11, a12, a13, a14) := by
  refine br_f (by decide) (nm_r (show (1 : Int32) - 1 = 0 by decide) ⟨mx_v0 (by omega) (by omega), ?_⟩)
  rw [mx_c0, ht]
  exact hp
end
end
section
/-! readAll on no token and on one, strength and depth. -/
section
variable {f0 f1 f2 f3 f4 f5 : Int32} {a1 a2 a3 a4 a5 a6 a7 a8 a9 a10 a11 a12 a13 a14 : Nat → Int32}
theorem mx_74z {post : Int32 → St2 → Prop} {x1 : Int32} (hx : f4 = 0 ∨ x1 = 0) (hp : post 0 (f0, f1, f2, f3, 0, f5, a1, a2, a3, a4, a5, a6, a7, a8, a9, a10, a11, a12, a13, a14)) : wX_readAll_74 post x1 f0 f1 f2 f3 f4 f5 a1 a2 a3 a4 a5 a6 a7 a8 a9 a10 a11 a12 a13 a14 := by
  have h90 : wX_readAll_90 post f0 f1 f2 f3 f4 f5 a1 a2 a3 a4 a5 a6 a7 a8 a9 a10 a11 a12 a13 a14 := ⟨rfl, rfl, br_t rfl ⟨rfl, hp⟩⟩
  exact br_c (fun _ => h90) (fun h => br_t (hx.resolve_left h) h90)
/-- no token: nothing is read -/
theorem mx_read0 {post : Int32 → St2 → Prop} (hp : post 0 (0, 0, 0, 0, 0, f5, a1, a2, a3, a4, a5, a6, a7, a8, a9, a10, a11, a12, a13, a14)) : wpX_readAll post (0, f1, f2, f3, f4, f5, a1, a2, a3, a4, a5, a6, a7, a8, a9, a10, a11, a12, a13, a14) :=
  br_t (by decide) ⟨1, br_t (by decide) (mx_74z (Or.inl rfl) hp)⟩
theorem mx_make {post : Int32 → St2 → Prop} {p0 p1 p2 p3 p4 : Int32} (h1 : p1 < 0)
    (hp : ∀ b5 b6 b7 b8 b9 b10 b11 b12 : Nat → Int32, b6 0 = p1 → b7 0 = p2 → b8 0 = p3 → b10 0 = 0 → b11 0 = p0 → b12 0 = p0 → post 0 (f0, 1, f2, f3, f4, f5, a1, a2, a3, a4, b5, b6, b7, b8, b9, b10, b11, b12, a13, a14)) :
    wpX_makeNode post (f0, 0, f2, f3, f4, f5, a1, a2, a3, a4, a5, a6, a7, a8, a9, a10, a11, a12, a13, a14) p0 p1 p2 p3 p4 := by
  have v : vp_in 0 16 := mx_v0 (by omega) (by omega)
  have u : ∀ (f : Nat → Int32) (x : Int32), upd f (0 : Int32).toNatClampNeg x 0 = x := fun f x => by rw [mx_c0, pk_us]
  refine ⟨v, nm_e ⟨v, nm_e ⟨v, nm_e ⟨v, nm_e ⟨v, nm_e ⟨v, nm_e (br_t h1 ?_)⟩⟩⟩⟩⟩⟩
  refine ⟨v, nm_e ⟨v, nm_e (nm_r (show (0 : Int32) + 1 = 1 by decide) ?_)⟩⟩
  rw [show (1 : Int32) - 1 = 0 by decide]
  exact hp _ _ _ _ _ _ _ _ (u _ _) (u _ _) (u _ _) (u _ _) (u _ _) (u _ _)
/-- a number at place 0 is read whole -/
theorem mx_beginN {post : Int32 → St2 → Prop} {q : Nat} (hq : q < 10) (ht : a4 0 = nI q)
    (hp : ∀ b5 b6 b7 b8 b9 b10 b11 b12 b13 : Nat → Int32, b6 0 = -1 → b7 0 = -1 → b8 0 = 5 → b10 0 = 0 → b11 0 = 0 → b12 0 = 0 → b13 0 = 0 → post 1 (f0, 1, 1, f3, f4, f5, a1, a2, a3, a4, b5, b6, b7, b8, b9, b10, b11, b12, b13, a14)) :
    wpX_begin post (f0, 0, 0, f3, f4, f5, a1, a2, a3, a4, a5, a6, a7, a8, a9, a10, a11, a12, a13, a14) 0 := by
  have v : vp_in 0 16 := mx_v0 (by omega) (by omega)
  refine ⟨v, nm_r (show a4 (0 : Int32).toNatClampNeg = nI q by rw [mx_c0, ht]) (br_f (nI_ge (b := 10) hq (by omega)) ?_)⟩
  refine mx_make (by decide) (fun b5 b6 b7 b8 b9 b10 b11 b12 h6 h7 h8 h10 h11 h12 => ⟨v, nm_e (nm_r (show (0 : Int32) + 1 = 1 by decide) ?_)⟩)
  exact hp b5 b6 b7 b8 b9 b10 b11 b12 _ h6 h7 h8 h10 h11 h12 (by rw [mx_c0, pk_us])
theorem mx_kindAt {post : Int32 → Prop} {q : Nat} (h1 : 10 ≤ q) (h2 : q < 18) (ht : a4 0 = nI q) (hl : mx_Lv a2) (hp : ∀ r, post r) : wpX_kindAt post (f0, f1, f2, f3, f4, f5, a1, a2, a3, a4, a5, a6, a7, a8, a9, a10, a11, a12, a13, a14) 0 := by
  have e : a4 (0 : Int32).toNatClampNeg - 10 = nI (q - 10) := by
    rw [mx_c0, ht]
    exact pk_sub (a := q) (b := 10) h1
  obtain ⟨l, hl5, el⟩ := hl (q - 10) (by omega)
  have e2 : a2 (a4 (0 : Int32).toNatClampNeg - 10).toNatClampNeg = nI l := by
    rw [e, nI_clamp (by omega), el]
  exact ⟨mx_v0 (by omega) (by omega), pk_in (q - 10) 8 (by omega) e, pk_in l 5 hl5 e2, hp _⟩
/-- another token at place 0 waits -/
theorem mx_beginO {post : Int32 → St2 → Prop} {q : Nat} (h1 : 10 ≤ q) (h2 : q ≤ 19) (ht : a4 0 = nI q) (hl : mx_Lv a2) (hp : ∀ (z : Int32) (b : Nat → Int32), post 0 (f0, f1, f2, 1, z, f5, a1, a2, a3, a4, a5, a6, a7, a8, a9, a10, a11, a12, a13, b)) :
    wpX_begin post (f0, f1, f2, 0, f4, f5, a1, a2, a3, a4, a5, a6, a7, a8, a9, a10, a11, a12, a13, a14) 0 := by
  have v : vp_in 0 16 := mx_v0 (by omega) (by omega)
  have h0 : wX_begin_66 post 0 0 f0 f1 f2 0 f4 f5 a1 a2 a3 a4 a5 a6 a7 a8 a9 a10 a11 a12 a13 a14 := ⟨rfl, rfl, v, nm_e (nm_r (show (0 : Int32) + 1 = 1 by decide) (hp _ _))⟩
  have h65 : wX_begin_65 post 0 f0 f1 f2 0 f4 f5 a1 a2 a3 a4 a5 a6 a7 a8 a9 a10 a11 a12 a13 a14 := h0
  have h61 : wX_begin_61 post 0 f0 f1 f2 0 f4 f5 a1 a2 a3 a4 a5 a6 a7 a8 a9 a10 a11 a12 a13 a14 := ⟨rfl, rfl, v, nm_e (nm_r (show (0 : Int32) + 1 = 1 by decide) (hp _ _))⟩
  refine ⟨v, nm_r (show a4 (0 : Int32).toNatClampNeg = nI q by rw [mx_c0, ht]) (br_t (nI_le (a := 10) h1 (by omega)) (br_c (fun _ => h65) (fun _ => br_c (fun _ => h61) (fun _ => ?_))))⟩
  refine br_f (nI_nlt (b := 10) h1 (by omega)) (pk_le 18 q (fun _ => br_t rfl h65) (fun g => br_f (by decide) ?_))
  exact mx_kindAt h1 g ht hl (fun r => br_c (fun _ => h61) (fun _ => h65))
theorem mx_wait0 {post : St2 → Prop} {k : Int32} (hp : post (f0, f1, f2, 0, f4, f5, a1, a2, a3, a4, a5, a6, a7, a8, a9, a10, a11, a12, a13, a14)) : wpX_applyWaiting post (f0, f1, f2, 0, f4, f5, a1, a2, a3, a4, a5, a6, a7, a8, a9, a10, a11, a12, a13, a14) k :=
  ⟨1, br_f (by decide) (br_t (by decide) hp)⟩
/-- one number: it is read, its node is 0 -/
theorem mx_readN {post : Int32 → St2 → Prop} {q : Nat} (hq : q < 10) (ht : a4 0 = nI q)
    (hp : ∀ b5 b6 b7 b8 b9 b10 b11 b12 b13 : Nat → Int32, b6 0 = -1 → b7 0 = -1 → b8 0 = 5 → b10 0 = 0 → b11 0 = 0 → b12 0 = 0 → post 1 (1, 1, 1, 0, 1, 0, a1, a2, a3, a4, b5, b6, b7, b8, b9, b10, b11, b12, b13, a14)) :
    wpX_readAll post (1, f1, f2, f3, f4, f5, a1, a2, a3, a4, a5, a6, a7, a8, a9, a10, a11, a12, a13, a14) := by
  refine br_f (by decide) ⟨2, br_f (by decide) (br_f (by decide) (br_t rfl ?_))⟩
  refine mx_beginN hq ht (fun b5 b6 b7 b8 b9 b10 b11 b12 b13 h6 h7 h8 h10 h11 h12 h13 => nm_r (show (0 : Int32) + 1 = 1 by decide) ?_)
  refine br_t (by decide) (br_f (by decide) (br_f (by decide) ⟨rfl, rfl, br_f (by decide) (mx_wait0 ?_)⟩))
  exact br_f (by decide) (br_t rfl ⟨rfl, rfl, nm_r h13 ⟨rfl, hp b5 b6 b7 b8 b9 b10 b11 b12 b13 h6 h7 h8 h10 h11 h12⟩⟩)
/-- one token that is no number: nothing is read -/
theorem mx_readO {post : Int32 → St2 → Prop} {q : Nat} (h1 : 10 ≤ q) (h2 : q ≤ 19) (ht : a4 0 = nI q) (hl : mx_Lv a2) (hp : ∀ b : Nat → Int32, post 0 (1, 0, 0, 1, 0, f5, a1, a2, a3, a4, a5, a6, a7, a8, a9, a10, a11, a12, a13, b)) :
    wpX_readAll post (1, f1, f2, f3, f4, f5, a1, a2, a3, a4, a5, a6, a7, a8, a9, a10, a11, a12, a13, a14) := by
  refine br_f (by decide) ⟨2, br_f (by decide) (br_f (by decide) (br_t rfl ?_))⟩
  refine mx_beginO h1 h2 ht hl (fun z b => nm_r (show (0 : Int32) + 1 = 1 by decide) ?_)
  exact br_t (by decide) (mx_74z (Or.inr rfl) (hp b))
theorem mx_str0 {post : Int32 → St2 → Prop} (hp : post (-4) (0, 0, 0, 0, 0, f5, a1, a2, a3, a4, a5, a6, a7, a8, a9, a10, a11, a12, a13, a14)) : wpX_strength post (0, f1, f2, f3, f4, f5, a1, a2, a3, a4, a5, a6, a7, a8, a9, a10, a11, a12, a13, a14) := mx_read0 (f1 := f1) (f2 := f2) (f3 := f3) (f4 := f4) (br_t rfl hp)
theorem mx_strN {post : Int32 → St2 → Prop} {q : Nat} (hq : q < 10) (ht : a4 0 = nI q) (hp : ∀ b5 b6 b7 b8 b9 b10 b11 b12 b13 : Nat → Int32, post 5 (1, 1, 1, 0, 1, 0, a1, a2, a3, a4, b5, b6, b7, b8, b9, b10, b11, b12, b13, a14)) :
    wpX_strength post (1, f1, f2, f3, f4, f5, a1, a2, a3, a4, a5, a6, a7, a8, a9, a10, a11, a12, a13, a14) := by
  refine mx_readN (f1 := f1) (f2 := f2) (f3 := f3) (f4 := f4) hq ht (fun b5 b6 b7 b8 b9 b10 b11 b12 b13 h6 h7 h8 h10 h11 h12 => br_f (by decide) ⟨mx_v0 (by omega) (by omega), ?_⟩)
  rw [mx_c0, h8]
  exact hp _ _ _ _ _ _ _ _ _
theorem mx_strO {post : Int32 → St2 → Prop} {q : Nat} (h1 : 10 ≤ q) (h2 : q ≤ 19) (ht : a4 0 = nI q) (hl : mx_Lv a2) (hp : ∀ b : Nat → Int32, post (-4) (1, 0, 0, 1, 0, f5, a1, a2, a3, a4, a5, a6, a7, a8, a9, a10, a11, a12, a13, b)) :
    wpX_strength post (1, f1, f2, f3, f4, f5, a1, a2, a3, a4, a5, a6, a7, a8, a9, a10, a11, a12, a13, a14) := mx_readO (f1 := f1) (f2 := f2) (f3 := f3) (f4 := f4) h1 h2 ht hl (fun b => br_t rfl (hp b))
/-- the walk from node 0, which has no parts and no brackets -/
theorem mx_dep35 {post : Int32 → St2 → Prop} (h6 : a6 0 = -1) (h7 : a7 0 = -1) (h10 : a10 0 = 0) (h11 : a11 0 = 0) (h12 : a12 0 = 0) (hp : post 0 (f0, f1, f2, f3, f4, f5, a1, a2, a3, a4, a5, a6, a7, a8, a9, a10, a11, a12, a13, a14)) :
    ∃ n, wX_depth_35 post 0 f0 f1 f2 f3 f4 f5 a1 a2 a3 a4 a5 a6 a7 a8 a9 a10 a11 a12 a13 a14 n 0 0 0 := by
  have v : vp_in 0 16 := mx_v0 (by omega) (by omega)
  have e6 : a6 (0 : Int32).toNatClampNeg = -1 := by rw [mx_c0, h6]
  have e7 : a7 (0 : Int32).toNatClampNeg = -1 := by rw [mx_c0, h7]
  have e10 : a10 (0 : Int32).toNatClampNeg = 0 := by rw [mx_c0, h10]
  have e11 : a11 (0 : Int32).toNatClampNeg = 0 := by rw [mx_c0, h11]
  have e12 : a12 (0 : Int32).toNatClampNeg = 0 := by rw [mx_c0, h12]
  refine ⟨2, br_f (by decide) (br_f (by decide) ⟨v, v, br_t (by rw [e10, e11]; decide) ⟨v, v, br_t (by rw [e10, e12]; decide) ⟨v, nm_r (show (0 : Int32) + a10 (0 : Int32).toNatClampNeg = 0 by rw [e10]; decide) ⟨v, br_t rfl ?_⟩⟩⟩⟩)⟩
  refine ⟨v, nm_r e6 ⟨v, nm_r e7 (br_t (by decide) (br_t (by decide) (br_t (by decide) (nm_r (show (0 : Int32) + 1 = 1 by decide) ?_))))⟩⟩
  exact br_f (by decide) (br_t (by decide) hp)
theorem mx_dep0 {post : Int32 → St2 → Prop} {k : Int32} (hp : post (-4) (0, 0, 0, 0, 0, f5, a1, a2, a3, a4, a5, a6, a7, a8, a9, a10, a11, a12, a13, a14)) : wpX_depth post (0, f1, f2, f3, f4, f5, a1, a2, a3, a4, a5, a6, a7, a8, a9, a10, a11, a12, a13, a14) k := mx_read0 (f1 := f1) (f2 := f2) (f3 := f3) (f4 := f4) (br_t rfl hp)
theorem mx_depO {post : Int32 → St2 → Prop} {k : Int32} {q : Nat} (h1 : 10 ≤ q) (h2 : q ≤ 19) (ht : a4 0 = nI q) (hl : mx_Lv a2) (hp : ∀ b : Nat → Int32, post (-4) (1, 0, 0, 1, 0, f5, a1, a2, a3, a4, a5, a6, a7, a8, a9, a10, a11, a12, a13, b)) :
    wpX_depth post (1, f1, f2, f3, f4, f5, a1, a2, a3, a4, a5, a6, a7, a8, a9, a10, a11, a12, a13, a14) k := mx_readO (f1 := f1) (f2 := f2) (f3 := f3) (f4 := f4) h1 h2 ht hl (fun b => br_t rfl (hp b))
theorem mx_k0 {k : Int32} (h1 : ¬ k < 0) (h2 : k < 1) : k = 0 := by
  obtain ⟨q, hq, e⟩ := nI_of2 (x := k) (M := 1) (n := 1) (by decide) h1 (Int32.le_of_lt h2)
  rw [e] at h2 ⊢
  have z : q < 1 := (nI_ltI (a := q) (b := 1) (by omega) (by omega)).mp h2
  rw [show q = 0 by omega]
  exact nI_0
theorem mx_depN {post : Int32 → St2 → Prop} {k : Int32} {q : Nat} (hq : q < 10) (ht : a4 0 = nI q)
    (hp : ∀ (r : Int32) (b5 b6 b7 b8 b9 b10 b11 b12 b13 : Nat → Int32), (k = 0 → r = 0) → (¬ k = 0 → r = -4) → post r (1, 1, 1, 0, 1, 0, a1, a2, a3, a4, b5, b6, b7, b8, b9, b10, b11, b12, b13, a14)) :
    wpX_depth post (1, f1, f2, f3, f4, f5, a1, a2, a3, a4, a5, a6, a7, a8, a9, a10, a11, a12, a13, a14) k := by
  refine mx_readN (f1 := f1) (f2 := f2) (f3 := f3) (f4 := f4) hq ht (fun b5 b6 b7 b8 b9 b10 b11 b12 b13 h6 h7 h8 h10 h11 h12 => br_f (by decide) (br_c (fun g => ?_) (fun g1 => br_c (fun g2 => ?_) (fun g => ?_))))
  · exact hp (-4) b5 b6 b7 b8 b9 b10 b11 b12 b13 (fun e => absurd g (by rw [e]; decide)) (fun _ => rfl)
  · have e := mx_k0 g1 g2
    subst e
    exact mx_dep35 h6 h7 h10 h11 h12 (hp 0 b5 b6 b7 b8 b9 b10 b11 b12 b13 (fun _ => rfl) (fun h => absurd rfl h))
  · exact hp (-4) b5 b6 b7 b8 b9 b10 b11 b12 b13 (fun e => absurd (show k < 1 by rw [e]; decide) g) (fun _ => rfl)
end
end
section
/-! The law. -/
theorem mx_cell {post : Int32 → Prop} {L : Nat} {xs : Nat → Int32} {p : Int32} (j : Nat) (hj : p = nI j) (hj5 : j < 5) (hL : L ≤ 5) (H : ∀ r, post r) : wpL_cellAt post L xs () p :=
  pk_le L j (fun _ => H 0) (fun h => ⟨pk_in j L h hj, H _⟩) rfl hj
theorem mx_T0 {x0 x1 : Int32} : mx_T x0 x1 (-4) (-4) (-4) 0 0 :=
  ⟨fun _ => rfl, fun h => absurd rfl h, fun _ => rfl, fun h => absurd rfl h, fun h => absurd rfl h, fun _ => rfl, fun h => absurd rfl h⟩
theorem mx_TO {x0 x1 : Int32} : mx_T x0 x1 (-4) (-4) x0 1 0 :=
  ⟨fun _ => rfl, fun h => absurd rfl h, fun _ => rfl, fun h => absurd rfl h, fun h => absurd rfl h, fun h => absurd h (by decide), fun _ => rfl⟩
theorem mx_TN {x0 x1 r : Int32} (h0 : x1 = 0 → r = 0) (h1 : ¬ x1 = 0 → r = -4) : mx_T x0 x1 5 r x0 1 1 :=
  ⟨fun h => absurd h (by decide), fun _ => rfl, fun h => absurd h (by decide), fun _ => h0, fun _ => h1, fun h => absurd h (by decide), fun _ => rfl⟩
theorem mx_lawOf {post : Int32 → St0 → Prop} (hp : post 1 ()) (t k d o m : Int32) : wpL_lawOf post 140 2224 () t k d o m := by
  refine ⟨by omega, by omega, 139, 2204, by omega, by omega, mx_init (by omega) (by omega) (fun lv mn hlv => mx_token (fun ho => ?_) (fun q hq et => ?_))⟩
  · refine mx_level (fun _ => rfl) (fun r7 b1 F7 => mx_oper hlv (fun r8 b2 b3 hl F8 => mx_str0 (mx_dep0 (mx_unt0 ?_))))
    refine br_c (fun _ => ?_) (fun h1 => br_c (fun _ => ?_) (fun h2 => absurd ho (fun g => g.elim h1 h2)))
    · exact mx_74 hp (fun _ => mx_T0) (fun h => absurd rfl h) (fun _ => rfl) (fun h => absurd rfl h) F7 F8
    · exact mx_74 hp (fun _ => mx_T0) (fun h => absurd rfl h) (fun _ => rfl) (fun h => absurd rfl h) F7 F8
  · have n1 : ¬ t < 0 := by
      rw [et]
      exact nI_pos (by omega)
    have n2 : ¬ 19 < t := by
      rw [et]
      exact nI_nlt (a := 19) (b := q) hq (by omega)
    have ht : ∀ f : Nat → Int32, upd f 0 t 0 = nI q := fun f => by rw [pk_us, et]
    refine mx_level (fun _ => rfl) (fun r7 b1 F7 => mx_oper hlv (fun r8 b2 b3 hl F8 => ?_))
    by_cases h10 : q < 10
    · refine mx_strN h10 (ht _) (fun _ _ _ _ _ _ _ _ _ => mx_depN h10 (ht _) (fun r _ _ _ _ _ _ _ _ _ k0 k1 => mx_unt1 (p := t) pk_us ?_))
      exact br_f n1 (br_f n2 (mx_74 hp (fun h => h.elim (fun g => absurd g (by decide)) (fun g => absurd g (by rw [et]; exact nI_ge (b := 10) h10 (by omega)))) (fun _ _ => mx_TN k0 k1) (fun h => absurd h (by decide)) (fun _ => rfl) F7 F8))
    · have h10' : 10 ≤ q := by omega
      refine mx_strO h10' hq (ht _) hl (fun _ => mx_depO h10' hq (ht _) hl (fun _ => mx_unt1 (p := t) pk_us ?_))
      exact br_f n1 (br_f n2 (mx_74 hp (fun _ => mx_TO) (fun _ g => absurd (show 10 ≤ t by rw [et]; exact nI_le (a := 10) h10' (by omega)) g) (fun h => absurd h (by decide)) (fun _ => rfl) F7 F8))
theorem i_vc (xs : Nat → Int32) (L : Nat) (hL : L ≤ 5) : wpL_law (fun r => r = 1) L xs :=
  mx_cell 0 rfl (by omega) hL (fun r1 => mx_cell 1 rfl (by omega) hL (fun r2 => mx_cell 2 rfl (by omega) hL (fun r3 => mx_cell 3 rfl (by omega) hL (fun r4 => mx_cell 4 rfl (by omega) hL (fun r5 =>
    ⟨140, 2224, by omega, by omega, mx_lawOf rfl r1 r2 r3 r4 r5⟩)))))
end
