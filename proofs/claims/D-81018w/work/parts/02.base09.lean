set_option maxRecDepth 16384
section
section Yo
variable {μ μ' μ'' μ0 : ab_M} {d : Nat} {S : SF} {N : NF} {T : Nat → Int} {n : Nat} {k : Tok} {h : He} {A cr ci cb kS b r t j la : Nat} {X : Rsv} {ni nu us : Nat} {ρ it : Option Nat}
theorem ySt_a (z : k.1 ≠ 1) : ySt S N T n h ρ t k = .inl (2, (k.2.1 : Int)) := sorry
theorem ySt_b (z : k.1 = 1) (w : nFd (N 1 t) (tkN T k) (fCt S t) 0 < 0) : ySt S N T n h ρ t k = .inl (5, (k.2.1 : Int)) := sorry
theorem ySt_c {f : Flt} (z : k.1 = 1) (w : nFd (N 1 t) (tkN T k) (fCt S t) 0 = j) (e : xAdv T n k = .inl f) : ySt S N T n h ρ t k = .inl f := sorry
theorem ySt_d {k1 : Tok} (z : k.1 = 1) (w : nFd (N 1 t) (tkN T k) (fCt S t) 0 = j) (e : xAdv T n k = .inr k1) (s : ¬ isSg k1 91) : ySt S N T n h ρ t k = .inr (j, 0, none, k1) := sorry
theorem ySt_e {k1 : Tok} {f : Flt} (z : k.1 = 1) (w : nFd (N 1 t) (tkN T k) (fCt S t) 0 = j) (e : xAdv T n k = .inr k1) (s : isSg k1 91) (ei : yI0 S N T n h ρ t j k1 = .inl f) : ySt S N T n h ρ t k = .inl f := sorry
theorem ySt_f {k1 k3 : Tok} (z : k.1 = 1) (w : nFd (N 1 t) (tkN T k) (fCt S t) 0 = j) (e : xAdv T n k = .inr k1) (s : isSg k1 91) (ei : yI0 S N T n h ρ t j k1 = .inr (la, it, k3)) : ySt S N T n h ρ t k = .inr (j, la, it, k3) := sorry
theorem c_walk29 (hm : isM A cr ci cb) (hg : hG S h) (h1000 : h.1 < hole) (u : hU S h) : ∀ (c : Nat) (μ : ab_M) (k : Tok) (ρ : Option Nat) (t : Nat), n < k.2.1 + c → cMS μ A kS b S N → CM X S μ A cr ci cb h.1 h.2.1 h.2.2.1 h.2.2.2 ni nu us → cT μ T n k → ((t : Int) < S 0 0 0 ∧ S 2 t 0 = 1) → (∀ r, ρ = some r → r < h.1 ∧ h.2.1 r = t) → frC1 μ0 μ → cYr S μ0 A h T n (ab_run wc (d + 12) 565 29 [(2, 1), (2, A), (0, 0), (0, t), (0, (oI ρ)), (0, 1), (3, 0), (3, 0), (3, 0)] [] μ) (yPt S N T n h c ρ t k) := sorry
theorem c_walkPath (hm : isM A cr ci cb) (hg : hG S h) (h1000 : h.1 < hole) (h0 : 0 < h.1) (u : hU S h) (r0 : μ A 2 = 0) (ms : cMS μ A kS b S N) (cm : CM X S μ A cr ci cb h.1 h.2.1 h.2.2.1 h.2.2.2 ni nu us) (ct : cT μ T n k) {c : Nat} (hn : n < k.2.1 + c) : cYr S μ A h T n (ab_run wc (d + 12) 565 0 [(2, 1), (2, A), (0, 0), (3, 0), (3, 0), (3, 0), (3, 0), (3, 0), (3, 0)] [] μ) (yPt S N T n h c (some 0) (h.2.1 0) k) := sorry
end Yo
end
section
section Yq
variable {μ μ' μ'' μ0 : ab_M} {d : Nat} {S : SF} {N : NF} {h : He} {A cr ci cb kS b r t j la ra ba cap : Nat} {X : Rsv} {ni nu us : Nat} {ρ it : Option Nat}
noncomputable def yQ (S : SF) (N : NF) (h : He) (r t j la : Nat) (it : Option Nat) : Option It := if la = 0 then (match (h.2.2.1 r j)[0]? with
    | some q => some q
    | none => if isPl S t j then some (0, [], S 19 t j, N 7 t j, 0) else none)
  else it.bind fun p => (h.2.2.1 r j)[p]?
noncomputable def yAn (S : SF) (N : NF) (h : He) (c : Cu) : Int × Int × Option (List Int) := match c.1 with
  | none => (0, 0, none)
  | some r => if c.2.2.2.1 = 0 ∧ 2 ≤ S 11 c.2.1 c.2.2.1 then (if S 11 c.2.1 c.2.2.1 = 2 then 4 else 5, (h.2.2.1 r c.2.2.1).length, none)
    else match yQ S N h r c.2.1 c.2.2.1 c.2.2.2.1 c.2.2.2.2 with
      | none => (0, 0, none)
      | some q => if S 12 c.2.1 c.2.2.1 = 12 then (3, S 13 c.2.1 c.2.2.1, none) else if S 12 c.2.1 c.2.2.1 ≤ 8 ∨ S 12 c.2.1 c.2.2.1 = 11 then (1, q.2.2.1, none) else (2, q.2.2.2.1.length, some q.2.2.2.1)
def cAk (ra ba cap : Nat) (run : ab_R) (μ : ab_M) (y : Int × Int × Option (List Int)) : Prop := R0 run (fun v μ' => v = y.1 ∧ μ' 1 54 = y.2.1 ∧ (∀ a i, (a ≠ 1 ∨ i ≠ 54) → (a ≠ ra ∨ i ≠ 1) → a ≠ ba → μ' a i = μ a i) ∧ match y.2.2 with
  | none => ∀ i, μ' ra i = μ ra i ∧ μ' ba i = μ ba i
  | some l => cRow μ' ra ba cap l)
theorem cAk.num {x y : Int} (h1 : ra ≠ 1) (h2 : ba ≠ 1) : cAk ra ba cap (some ((0, x), ab_up μ 1 54 y)) μ (x, y, none) := sorry
theorem c_as341 {src o lb : Nat} {l : List Int} (hr : isRw ra ba cap) (n1 : ra ≠ 1) (n2 : ba ≠ 1) (rb : ra ≠ ba) (hs : wc_ar src = (4, lb)) (h1 : o + l.length ≤ lb) (h2 : cBy μ src o l) (h3 : l.length < 100000) (hl : l.length ≤ cap) (sr : src ≠ ra) : cAk ra ba cap (ab_run wc (d + 2) 372 341 [(2, 1), (3, 0), (3, 0), (2, ra), (3, 0), (3, 0), (3, 0), (2, src), (0, o), (3, 0)] [(0, (l.length))] μ) μ (2, l.length, some l) := sorry
theorem fSo_1 {k : Int} : fSo k = 1 ↔ k = 9 ∨ k = 10 := sorry
theorem fSo_0 {k : Int} (a : k ≠ 9) (b : k ≠ 10) (c : k ≠ 12) : fSo k = 0 := sorry
theorem c_as178 {x3 : Int} (hm : isM A cr ci cb) (ms : cMS μ A kS b S N) (cm : CM X S μ A cr ci cb h.1 h.2.1 h.2.2.1 h.2.2.2 ni nu us) (u : hU S h) (hr : r < h.1) (hj : j < fCt S (h.2.1 r)) (k12 : S 12 (h.2.1 r) j ≠ 12) (hi : hI S h) (cn0 : hCn S h) (io : itO S h (some r) (h.2.1 r) j la it) (ck : la = 0 → S 11 (h.2.1 r) j < 2) (e3 : μ 1 51 = if la = 0 then 0 else 1) (e4 : μ 1 50 = cIm S μ A h j (some r) it) {q : It} (eq : yQ S N h r (h.2.1 r) j la it = some q) (hw : isRw ra ba cap) (n1 : ra ≠ 1) (n2 : ba ≠ 1) (u1 : us ≤ cap) (c6 : 60 ≤ cap) (nr : ∀ a, a = ra → ¬ inM A a ∧ a ≠ inA b 4) {s0 : Int} (hs0 : s0 = if la = 0 ∧ h.2.2.1 r j = [] then 1 else 0) :
    cAk ra ba cap (ab_run wc (d + 4) 372 178 [(2, 1), (2, A), (3, 0), (2, ra), (2, (fdA b (h.2.1 r) j)), (0, (((bsF S h.2.1 r + j : Nat) : Int))), (3, 0), (3, 0), (3, 0), (3, 0)] [(0, s0)] μ) μ (if S 12 (h.2.1 r) j ≤ 8 ∨ S 12 (h.2.1 r) j = 11 then (1, q.2.2.1, none) else (2, q.2.2.2.1.length, some q.2.2.2.1)) := sorry
end Yq
end
section
section Yr
variable {μ μ' μ'' μ0 : ab_M} {d : Nat} {S : SF} {N : NF} {T : Nat → Int} {n : Nat} {h : He} {A cr ci cb kS b r t j la ra ba cap : Nat} {X : Rsv} {ni nu us : Nat} {ρ it : Option Nat}
def cuO (S : SF) (h : He) (c : Cu) : Prop := (∀ r, c.1 = some r → r < h.1 ∧ h.2.1 r = c.2.1) ∧ ((c.2.1 : Int) < S 0 0 0 ∧ S 2 c.2.1 0 = 1) ∧ c.2.2.1 < fCt S c.2.1 ∧ itO S h c.1 c.2.1 c.2.2.1 c.2.2.2.1 c.2.2.2.2
theorem cMS.n1 (c : cMS μ A kS b S N) (hm : isM A cr ci cb) (f : ∀ a, a ≠ 1 → ∀ i, μ' a i = μ a i) : cMS μ' A kS b S N := sorry
theorem cAk.to {run : ab_R} {y : Int × Int × Option (List Int)} (g : cAk ra ba cap run μ' y) (n1 : ra ≠ 1) (n2 : ba ≠ 1) (f : ∀ a i, (a ≠ 1 ∨ i ≠ 54) → μ' a i = μ a i) : cAk ra ba cap run μ y := sorry
theorem c_as28 (hm : isM A cr ci cb) (ms : cMS μ A kS b S N) (cm : CM X S μ A cr ci cb h.1 h.2.1 h.2.2.1 h.2.2.2 ni nu us) (u : hU S h) (hi : hI S h) (cn0 : hCn S h) (hr : r < h.1) (hj : j < fCt S (h.2.1 r)) (io : itO S h (some r) (h.2.1 r) j la it) (ik : la ≠ 0 → it ≠ none) (e1 : μ 1 48 = r) (e2 : μ 1 49 = j) (e3 : μ 1 51 = if la = 0 then 0 else 1) (e4 : μ 1 50 = cIm S μ A h j (some r) it) (hw : isRw ra ba cap) (n1 : ra ≠ 1) (n2 : ba ≠ 1) (u1 : us ≤ cap) (c6 : 60 ≤ cap) (nr : ∀ a, a = ra → ¬ inM A a ∧ a ≠ inA b 4) (t0 : μ 1 54 = 0) :
    cAk ra ba cap (ab_run wc (d + 4) 372 28 [(2, 1), (2, A), (3, 0), (2, ra), (3, 0), (3, 0), (3, 0), (3, 0), (3, 0), (3, 0)] [] μ) μ (yAn S N h (some r, h.2.1 r, j, la, it)) := sorry
end Yr
end
section
section Ys
variable {μ μ' μ'' μ0 : ab_M} {d : Nat} {S : SF} {N : NF} {T : Nat → Int} {n : Nat} {h : He} {A cr ci cb kS b r t j la ra ba cap k row s bs : Nat} {X : Rsv} {ni nu us : Nat} {ρ it : Option Nat} {tp : List Int}
theorem c_asked {x2 : Int} (hm : isM A cr ci cb) (ms : cMS μ A kS b S N) (cm : CM X S μ A cr ci cb h.1 h.2.1 h.2.2.1 h.2.2.2 ni nu us) (u : hU S h) (hi : hI S h) (cn0 : hCn S h) {c : Cu} (co : cuO S h c) (cu : cCu S μ A h c) (hw : isRw ra ba cap) (n1 : ra ≠ 1) (n2 : ba ≠ 1) (u1 : us ≤ cap) (c6 : 60 ≤ cap) (nr : ∀ a, a = ra → ¬ inM A a ∧ a ≠ inA b 4) :
    cAk ra ba cap (ab_run wc (d + 4) 372 0 [(2, 1), (2, A), (0, x2), (2, ra), (3, 0), (3, 0), (3, 0), (3, 0), (3, 0), (3, 0)] [] μ) μ (yAn S N h c) := sorry
theorem yPt_ok (ok : scOK S N) (u : hU S h) : ∀ (c : Nat) (ρ : Option Nat) (t : Nat) (k : Tok) (cu : Cu) (k' : Tok), yPt S N T n h c ρ t k = .inr (cu, k') → ((t : Int) < S 0 0 0 ∧ S 2 t 0 = 1) → (∀ r, ρ = some r → r < h.1 ∧ h.2.1 r = t) → cuO S h cu := sorry
noncomputable def yAk (S : SF) (N : NF) (T : Nat → Int) (n : Nat) (h : He) : Flt ⊕ Cu := match lx T n 0 with
  | none => .inl (1, (lxB T n false 0 : Int))
  | some k => match yPt S N T n h (n + 1) (some 0) (h.2.1 0) k with
    | .inl f => .inl f
    | .inr (c, k') => if k'.1 = 0 then .inr c else .inl (2, (k'.2.1 : Int))
theorem c_begin (n4 : n ≤ 4000) (hx : ∀ k, k < n → 0 ≤ T k ∧ T k < 256 ∧ μ 4 k = sg (T k)) : (lx T n 0 = none → Rf (ab_run wc (d + 5) 667 0 [(2, 8), (2, 4), (0, n)] [] μ) μ 1 (lxB T n false 0 : Int)) ∧ ∀ k, lx T n 0 = some k → R3 (ab_run wc (d + 5) 667 0 [(2, 8), (2, 4), (0, n)] [] μ) (fun μ' => cT μ' T n k ∧ frP μ μ') := sorry
end Ys
end
section
section Yt
variable {μ μ' : ab_M} {d : Nat} {S : SF} {N : NF} {h : He} {k row s bs : Nat} {tp : List Int}
def frAs (row : Nat) (μ μ' : ab_M) : Prop := ∀ a i, a ≠ 2 → (a ≠ 3 ∨ i ≠ 1) → a ≠ 8 → a ≠ 9 → a ≠ 1309 → (a ≠ rwA row ∨ i ≠ 1) → a ≠ rbA row → (a ≠ 1 ∨ i ≠ 3 ∧ i ≠ 54 ∧ i ≠ 18 ∧ i ≠ 20 ∧ (i < 48 ∨ 53 < i)) → μ' a i = μ a i
theorem c_refd {f : Flt} (e1 : μ 2 6 = f.1) (e2 : μ 2 7 = f.2) : (ab_run wc (d + 1) 498 0 [(2, 1), (2, 2)] [] μ) = some ((0, w32 (-10 - f.1)), ab_up μ 1 3 f.2) := sorry
theorem c_ask (hk : k < 12) (hw : row < 8) (c : cRow μ 3 4 4000 tp) (fl : μ (6314 + 27 * k) 0 = 0 ∨ μ (6314 + 27 * k) 0 = 1 ∧ mC S N μ k s bs h ∧ mS S h) :
    R0 (ab_run wc (d + 13) 371 0 [(2, 1), (0, k), (0, row), (3, 0)] [] μ) (fun v μ' => if μ (6314 + 27 * k) 0 = 0 then v = -2 ∧ μ' = μ else μ' 3 1 = 0 ∧ frAs row μ μ' ∧ match yAk S N (tpT tp) tp.length h with
      | .inl f => v = w32 (-10 - f.1) ∧ μ' 1 3 = f.2 ∧ μ' 1 54 = 0 ∧ ∀ i, μ' (rwA row) i = μ (rwA row) i ∧ μ' (rbA row) i = μ (rbA row) i
      | .inr cu => v = (yAn S N h cu).1 ∧ μ' 1 3 = -2 ∧ μ' 1 54 = (yAn S N h cu).2.1 ∧ match (yAn S N h cu).2.2 with
        | none => ∀ i, μ' (rwA row) i = μ (rwA row) i ∧ μ' (rbA row) i = μ (rbA row) i
        | some l => cRow μ' (rwA row) (rbA row) 4000 l) := sorry
end Yt
end
section
section Rp
variable {μ μ' μ'' : ab_M} {d : Nat} {S : SF} {N : NF} {h : He} {m s pM r t j : Nat} {ε : Nat → Nat}
def tEt (S : SF) (μ : ab_M) (m s pM : Nat) (ε : Nat → Nat) (t j : Nat) (x : Int) : Option It → Prop
  | none => x = -2
  | some q => ∃ i : Nat, x = i ∧ i / 4600 = m ∧ tEn S μ m s pM ε t i (j, q)
def tRu (S : SF) (μ : ab_M) (m s pM : Nat) (ε : Nat → Nat) (t j : Nat) (x : Int) (L : List It) : Prop := ∃ cR R, tSg μ x cR (-2) ∧ tEs S μ m s pM ε t cR (L.map (Prod.mk j) ++ R) ∧ (∀ y ∈ R, y.1 ≠ j) ∧ ∀ i ∈ cR, i / 4600 = m
theorem tRu.cons {x : Int} {q : It} {L : List It} (h : tRu S μ m s pM ε t j x (q :: L)) : ∃ i : Nat, x = i ∧ i / 4600 = m ∧ tEn S μ m s pM ε t i (j, q) ∧ tRu S μ m s pM ε t j (μ 7870 i) L := sorry
def tLc (μ : ab_M) (a f : Nat) (x : Int) (p : Nat) : Prop := ∃ c1 e c2, x = ((e : Nat) : Int) ∧ tSg μ (μ 7871 a) (c1 ++ e :: c2) (-2) ∧ (c1.filter (fun i => decide (μ 7869 i = f))).length = p
theorem tSg_uq : ∀ {c c' : List Nat} {x : Int}, tSg μ x c (-2) → tSg μ x c' (-2) → c = c' := sorry
theorem tEs_cnt : ∀ {c : List Nat} {W : List We}, tEs S μ m s pM ε t c W → (c.filter (fun i => decide (μ 7869 i = fX s t j))).length = (wV W j).length := sorry
theorem tRu.sg {x : Int} {L : List It} (h : tRu S μ m s pM ε t j x L) : ∃ c, tSg μ x c (-2) := sorry
theorem tRu.nl {x : Int} (h : tRu S μ m s pM ε t j x []) : x = -2 ∨ ∃ i : Nat, x = i ∧ i / 4600 = m ∧ μ 7869 i ≠ fX s t j := sorry
theorem tw_ia11 {i : Nat} (i6 : i ≤ 100000) (m16 : m < 16) : ∀ (w p : Nat) (L : List It) (x : Int), p + w = i → tRu S μ m s pM ε t j x L → ∃ x', (ab_run wt (d + 1) 111 11 [(2, 7756), (3, 0), (0, (fX s t j)), (0, i), (0, x), (0, p)] [] μ) = some ((0, x'), μ) ∧ tEt S μ m s pM ε t j x' L[w]? ∧ (w < L.length → ∃ d1 e d2, x' = ((e : Nat) : Int) ∧ tSg μ x (d1 ++ e :: d2) (-2) ∧ (d1.filter (fun i => decide (μ 7869 i = fX s t j))).length = w) := sorry
theorem tH.rn {W : Nat → List We} {c uc : Nat → List Nat} {own : Nat → Nat} {uM : Nat} {al : Nat → Bool} (H : tH S μ m s h.1 al h.2.1 h.2.2.1 h.2.2.2 ε W c uc own uM pM) (ts : TS μ s S N) (hr : r < h.1) (ha : al r = true) (hj : j < fCt S (h.2.1 r)) : ∃ x : Int, (∀ d, (ab_run wt (d + 1) 61 0 [(2, 7756), (0, (ε r)), (0, (fX s (h.2.1 r) j)), (3, 0)] [] μ) = some ((0, x), μ)) ∧ tRu S μ m s pM ε (h.2.1 r) j x (h.2.2.1 r j) ∧ (h.2.2.1 r j = [] → x = -2) ∧ (h.2.2.1 r j ≠ [] → ∃ c0 c', tSg μ (μ 7871 (ε r)) (c0 ++ c') (-2) ∧ tSg μ x c' (-2) ∧ (c0.filter (fun i => decide (μ 7869 i = fX s (h.2.1 r) j))).length = 0) := sorry
theorem tw_itemAt {W : Nat → List We} {c uc : Nat → List Nat} {own : Nat → Nat} {uM i : Nat} {al : Nat → Bool} (H : tH S μ m s h.1 al h.2.1 h.2.2.1 h.2.2.2 ε W c uc own uM pM) (ts : TS μ s S N) (hr : r < h.1) (ha : al r = true) (hj : j < fCt S (h.2.1 r)) (i6 : i ≤ 100000) : ∃ x', (ab_run wt (d + 2) 111 0 [(2, 7756), (0, (ε r)), (0, (fX s (h.2.1 r) j)), (0, i), (3, 0), (3, 0)] [] μ) = some ((0, x'), μ) ∧ tEt S μ m s pM ε (h.2.1 r) j x' (h.2.2.1 r j)[i]? ∧ (i < (h.2.2.1 r j).length → tLc μ (ε r) (fX s (h.2.1 r) j) x' i) := sorry
end Rp
end
section
section Rq
variable {μ μ' μ'' μ0 : ab_M} {d : Nat} {S : SF} {N : NF} {T : Nat → Int} {n : Nat} {k : Tok} {h : He} {s r t j la uM pM pM' : Nat} {al : Nat → Bool} {ε : Nat → Nat} {ρ it : Option Nat}
def frTy (μ μ' : ab_M) : Prop := ∀ a i, a ≠ 7761 → (a ≠ 7868 ∨ i ≠ 12) → (a ≠ 7879 ∨ i < 108000 ∨ 117000 ≤ i) → (a ≠ 7756 ∨ (i < 7 ∨ 18 < i) ∧ (i < 154 ∨ 167 < i) ∧ (i < 233 ∨ 243 < i)) → μ' a i = μ a i
theorem frTy.refl : frTy μ μ := sorry
theorem frTy.trans (f : frTy μ μ') (g : frTy μ' μ'') : frTy μ μ'' := sorry
theorem frL.ty (f : frL μ μ') : frTy μ μ' := sorry
def FtP (run : ab_R) (μ : ab_M) (f : Flt) : Prop := ∃ μ', run = some ((0, 0), μ') ∧ μ' 7756 17 = f.1 ∧ μ' 7756 18 = f.2 ∧ frTy μ μ'
theorem Ft.p {run : ab_R} {x y : Int} (g : Ft run (frL μ) x y) : FtP run μ (x, y) := sorry
theorem FtP.to {run : ab_R} {f : Flt} (g : FtP run μ' f) (q : frTy μ μ') : FtP run μ f := sorry
def TY (S : SF) (N : NF) (T : Nat → Int) (n s : Nat) (μ : ab_M) (k : Tok) (h : He) (al : Nat → Bool) (ε : Nat → Nat) (uM pM : Nat) : Prop := tT μ T n k ∧ TD (fun _ => none) (fun _ => False) S N 12 s μ h al ε uM pM
theorem TD.ty (x : TD (fun _ => none) (fun _ => False) S N 12 s μ h al ε uM pM) (h0 : 0 < h.1 ∧ al 0 = true) (f : ∀ a i, a ≠ 7761 → a ≠ 7756 → μ' a i = μ a i) : TD (fun _ => none) (fun _ => False) S N 12 s μ' h al ε uM pM := sorry
theorem tEn.sm {m i : Nat} {x : We} (e : tEn S μ m s pM ε t i x) (f : ∀ a y, a ≠ 7761 → a ≠ 7756 → μ' a y = μ a y) : tEn S μ' m s pM ε t i x := sorry
theorem tEt.sm {m : Nat} {x : Int} {o : Option It} (e : tEt S μ m s pM ε t j x o) (f : ∀ a y, a ≠ 7761 → a ≠ 7756 → μ' a y = μ a y) : tEt S μ' m s pM ε t j x o := sorry
theorem tSg.sm {z : Int} (f : ∀ a y, a ≠ 7761 → a ≠ 7756 → μ' a y = μ a y) : ∀ {c : List Nat} {x : Int}, tSg μ x c z → tSg μ' x c z := sorry
theorem tRu.sm {m : Nat} {x : Int} {L : List It} (e : tRu S μ m s pM ε t j x L) (f : ∀ a y, a ≠ 7761 → a ≠ 7756 → μ' a y = μ a y) : tRu S μ' m s pM ε t j x L := sorry
theorem tLc.sm {a g p : Nat} {x : Int} (e : tLc μ a g x p) (f : ∀ a y, a ≠ 7761 → a ≠ 7756 → μ' a y = μ a y) : tLc μ' a g x p := sorry
def tRc (μ : ab_M) (ε : Nat → Nat) : Option Nat → Prop
  | none => μ 7756 236 = 1
  | some r => μ 7756 236 = 0 ∧ μ 7756 233 = ε r
def tPe (S : SF) (μ : ab_M) (s pM : Nat) (ε : Nat → Nat) (h : He) (t j la : Nat) (it : Option Nat) : Option Nat → Prop
  | none => μ 7756 235 = -2
  | some r => if la = 0 then tRu S μ 12 s pM ε t j (μ 7756 235) (h.2.2.1 r j) ∧ (h.2.2.1 r j = [] → μ 7756 235 = -2) else tEt S μ 12 s pM ε t j (μ 7756 235) (it.bind fun p => (h.2.2.1 r j)[p]?) ∧ ∀ p, it = some p → tLc μ (ε r) (fX s t j) (μ 7756 235) p
def tCu (S : SF) (μ : ab_M) (s pM : Nat) (ε : Nat → Nat) (h : He) (c : Cu) : Prop := μ 7756 234 = fX s c.2.1 c.2.2.1 ∧ μ 7756 237 = c.2.2.2.1 ∧ tRc μ ε c.1 ∧ tPe S μ s pM ε h c.2.1 c.2.2.1 c.2.2.2.1 c.2.2.2.2 c.1
theorem tH.sm {m nn : Nat} {al : Nat → Bool} {ty : Nat → Nat} {V : Nat → Nat → List It} {U : Nat → List Un} {W : Nat → List We} {c uc : Nat → List Nat} {own : Nat → Nat} (H : tH S μ m s nn al ty V U ε W c uc own uM pM) (f : ∀ a y, a ≠ 7761 → a ≠ 7756 → μ' a y = μ a y) : tH S μ' m s nn al ty V U ε W c uc own uM pM := sorry
def tKf (S : SF) (μ : ab_M) (s uM pM : Nat) (al : Nat → Bool) (ε : Nat → Nat) (h : He) (ρ : Option Nat) (t j la : Nat) (key : Int × List Int) : Prop := (la = 1 → μ 7756 238 = if 0 ≤ key.1 ∧ key.1 < 100000 then key.1 else 100000) ∧ (la = 2 → μ 7756 241 = key.1 ∧ (∃ fi : Nat, μ 7756 242 = fi ∧ μ 7756 243 = key.2.length ∧ fi + key.2.length ≤ pM ∧ tBy μ 7879 (108000 + fi) key.2) ∧ ∀ r, ρ = some r → ∃ (W : Nat → List We) (c uc : Nat → List Nat) (own : Nat → Nat) (c1 c2 : List Nat) (W1 W2 : List We), tH S μ 12 s h.1 al h.2.1 h.2.2.1 h.2.2.2 ε W c uc own uM pM ∧ tKp S t j (c r) c1 c2 (W r) W1 W2 (kTk (S 14 t j) key.1 key.2 (h.2.2.1 r j)) (kDp (S 14 t j) key.1 key.2 (h.2.2.1 r j)) ∧ μ 7756 240 = lsI c1)
theorem tKf.sm {key : Int × List Int} (e : tKf S μ s uM pM al ε h ρ t j la key) (f : ∀ a y, a ≠ 7761 → a ≠ 7756 → μ' a y = μ a y) (g : ∀ i, i = 238 ∨ i = 241 ∨ i = 242 ∨ i = 243 ∨ i = 240 → μ' 7756 i = μ 7756 i) : tKf S μ' s uM pM al ε h ρ t j la key := sorry
def tYr (S : SF) (N : NF) (T : Nat → Int) (n s : Nat) (μ0 : ab_M) (h : He) (al : Nat → Bool) (ε : Nat → Nat) (uM : Nat) (κ : Option ((Int × List Int) × Int)) (run : ab_R) : Flt ⊕ (Cu × Tok) → Prop
  | .inl f => FtP run μ0 f
  | .inr (c, k) => ∃ μ' pM', run = some ((0, 1), μ') ∧ TY S N T n s μ' k h al ε uM pM' ∧ pM' ≤ 2000 + k.2.1 ∧ tCu S μ' s pM' ε h c ∧ frTy μ0 μ' ∧ ∀ key, κ = some key → tKf S μ' s uM pM' al ε h c.1 c.2.1 c.2.2.1 c.2.2.2.1 key.1 ∧ μ' 7756 239 = key.2
theorem tYr.key {κ κ' : Option ((Int × List Int) × Int)} {run : ab_R} {R : Flt ⊕ (Cu × Tok)} (x : tYr S N T n s μ0 h al ε uM κ' run R) (e : ∀ c k, R = .inr (c, k) → ∀ key, κ = some key → κ' = some key) : tYr S N T n s μ0 h al ε uM κ run R := sorry
theorem tPe.sm (e : tPe S μ s pM ε h t j la it ρ) (f : ∀ a y, a ≠ 7761 → a ≠ 7756 → μ' a y = μ a y) (e1 : μ' 7756 235 = μ 7756 235) : tPe S μ' s pM ε h t j la it ρ := sorry
theorem tw_ynext {c : Cu} {κ : Option ((Int × List Int) × Int)} (ty : TY S N T n s μ k h al ε uM pM) (h0 : 0 < h.1 ∧ al 0 = true) (p2 : pM ≤ 2000 + k.2.1) (cu : tCu S μ s pM ε h c) (q3 : frTy μ0 μ) (kf : ∀ key, κ = some key → tKf S μ s uM pM al ε h c.1 c.2.1 c.2.2.1 c.2.2.2.1 key.1 ∧ μ 7756 239 = key.2) : tYr S N T n s μ0 h al ε uM κ (ab_cal (ab_run wt (d + 4) 174 0 [(2, 7756), (3, 0), (3, 0)] [] μ) 0 (fun r1 μ1 => some ((4, r1), μ1)) (fun r1 μ1 => if r1 = 0 ∨ r1 = 1 then some ((0, r1), μ1) else none)) (match xAdv T n k with
    | .inl f => .inl f
    | .inr k' => .inr (c, k')) := sorry
end Rq
end
section
section Rr
variable {μ μ' μ'' μ0 : ab_M} {d : Nat} {S : SF} {N : NF} {T : Nat → Int} {n : Nat} {k : Tok} {h : He} {s r t j la uM pM pM' : Nat} {al : Nat → Bool} {ε : Nat → Nat} {ρ it : Option Nat}
theorem TY.up {i : Nat} {v : Int} (x : TY S N T n s μ k h al ε uM pM) (h0 : 0 < h.1 ∧ al 0 = true) (hi : 154 ≤ i) : TY S N T n s (ab_up μ 7756 i v) k h al ε uM pM := sorry
theorem tRc.up {i : Nat} {v : Int} (x : tRc μ ε ρ) (h1 : i ≠ 236) (h2 : i ≠ 233) : tRc (ab_up μ 7756 i v) ε ρ := sorry
theorem tPe_1 (z : la ≠ 0) (e : tEt S μ 12 s pM ε t j (μ 7756 235) (it.bind fun p => (h.2.2.1 r j)[p]?) ∧ ∀ p, it = some p → tLc μ (ε r) (fX s t j) (μ 7756 235) p) : tPe S μ s pM ε h t j la it (some r) := sorry
theorem tPe_0 (e : tRu S μ 12 s pM ε t j (μ 7756 235) (h.2.2.1 r j) ∧ (h.2.2.1 r j = [] → μ 7756 235 = -2)) : tPe S μ s pM ε h t j 0 it (some r) := sorry
theorem tw_si352 {v s0 dv : Int} {l : List Int} (ty : TY S N T n s μ k h al ε uM pM) (h0 : 0 < h.1 ∧ al 0 = true) (hj : j < fCt S t) (hρ : ∀ r, ρ = some r → r < h.1 ∧ h.2.1 r = t) (hα : ∀ r, ρ = some r → al r = true) (hl : ∀ r, ρ = some r → (h.2.2.1 r j).length < 100000) (p2 : pM ≤ 2000 + k.2.1) (c1 : μ 7756 234 = fX s t j) (c2 : μ 7756 237 = 1) (c3 : tRc μ ε ρ) (es : s0 = if 0 ≤ v ∧ v < 100000 then v else 100000) (q3 : frTy μ0 μ) (qd : μ 7756 239 = dv) :
    tYr S N T n s μ0 h al ε uM (some ((v, l), dv)) (ab_run wt (d + 5) 294 352 [(2, 7756), (3, 0), (3, 0), (3, 0), (3, 0), (3, 0), (3, 0), (3, 0), (3, 0), (0, (fX s t j)), (1, v), (3, 0)] [(0, s0), (2, 7756)] μ) (match xAdv T n k with
      | .inl f => .inl f
      | .inr k' => .inr ((ρ, t, j, 1, ρ.bind fun r => yNt v (h.2.2.1 r j)), k')) := sorry
theorem tEs_cut {m : Nat} : ∀ {c1 c2 : List Nat} {W1 W2 : List We}, tEs S μ m s pM ε t (c1 ++ c2) (W1 ++ W2) → c1.length = W1.length → tEs S μ m s pM ε t c2 W2 := sorry
theorem tw_si432 {v dv : Int} {fi : Nat} {l : List Int} (ty : TY S N T n s μ k h al ε uM pM) (h0 : 0 < h.1 ∧ al 0 = true) (hg : hG S h) (hj : j < fCt S t) (m3 : S 11 t j = 3) (hρ : ∀ r, ρ = some r → r < h.1 ∧ h.2.1 r = t) (hα : ∀ r, ρ = some r → al r = true) (p2 : pM ≤ 2000 + k.2.1) (c1 : μ 7756 234 = fX s t j) (c2 : μ 7756 237 = 2) (c3 : tRc μ ε ρ) (s1 : μ 7756 163 = v) (s2 : μ 7756 164 = fi) (s3 : μ 7756 165 = l.length) (hl : fi + l.length ≤ pM) (hb : tBy μ 7879 (108000 + fi) l) (b2 : byt l) (v2 : lng v) (q3 : frTy μ0 μ) (qd : μ 7756 239 = dv) :
    tYr S N T n s μ0 h al ε uM (some ((v, l), dv)) (ab_run wt (d + 5) 294 432 [(2, 7756), (3, 0), (3, 0), (3, 0), (3, 0), (3, 0), (3, 0), (3, 0), (3, 0), (0, (fX s t j)), (3, 0), (3, 0)] [] μ) (match xAdv T n k with
      | .inl f => .inl f
      | .inr k' => .inr ((ρ, t, j, 2, ρ.bind fun r => yKy (S 14 t j) v l (h.2.2.1 r j)), k')) := sorry
end Rr
end
section
section Rs
variable {μ μ' μ'' μ0 : ab_M} {d : Nat} {S : SF} {N : NF} {T : Nat → Int} {n : Nat} {k : Tok} {h : He} {s r t j la uM pM pM' : Nat} {al : Nat → Bool} {ε : Nat → Nat} {ρ it : Option Nat}
noncomputable def yTl (T : Nat → Int) (n : Nat) (k : Tok) : Flt ⊕ Tok := match xAdv T n k with
  | .inl f => .inl f
  | .inr k3 => xWnt T n 93 k3
noncomputable def yIt (S : SF) (h : He) (t j : Nat) (v : Int) (l : List Int) (ρ : Option Nat) : Option Nat := if S 11 t j = 2 then ρ.bind (fun r => yNt v (h.2.2.1 r j)) else ρ.bind (fun r => yKy (S 14 t j) v l (h.2.2.1 r j))
theorem TY.l (x : TY S N T n s μ k h al ε uM pM) (h0 : 0 < h.1 ∧ al 0 = true) {k' : Tok} (w : tT μ' T n k') (f : frL μ μ') : TY S N T n s μ' k' h al ε uM pM := sorry
theorem tRc.l (x : tRc μ ε ρ) (f : frL μ μ') : tRc μ' ε ρ := sorry
theorem tw_si292 {v dv : Int} {l : List Int} {x6 x10 : Int} {fi : Nat} (ty : TY S N T n s μ k h al ε uM pM) (h0 : 0 < h.1 ∧ al 0 = true) (hg : hG S h) (hj : j < fCt S t) (hm : S 11 t j = 2 ∨ S 11 t j = 3) (hρ : ∀ r, ρ = some r → r < h.1 ∧ h.2.1 r = t) (hα : ∀ r, ρ = some r → al r = true) (hl : ∀ r, ρ = some r → (h.2.2.1 r j).length < 100000) (p2 : pM ≤ 2000 + k.2.2.1) (c1 : μ 7756 234 = fX s t j) (c3 : tRc μ ε ρ) (v2 : lng v)
    (n6 : x6 = 0 → x10 = v ∧ l = []) (m6 : x6 ≠ 0 → S 11 t j = 3 ∧ v = 0 ∧ μ 7756 164 = fi ∧ μ 7756 165 = l.length ∧ fi + l.length ≤ pM ∧ tBy μ 7879 (108000 + fi) l ∧ byt l) (q3 : frTy μ0 μ) (qd : μ 7756 239 = dv) :
    tYr S N T n s μ0 h al ε uM (some ((v, l), dv)) (ab_run wt (d + 6) 294 292 [(2, 7756), (3, 0), (3, 0), (3, 0), (3, 0), (3, 0), (0, x6), (0, (S 11 t j)), (3, 0), (0, (fX s t j)), (1, x10), (3, 0)] [] μ) (match yTl T n k with
      | .inl f => .inl f
      | .inr k' => .inr ((ρ, t, j, (if S 11 t j = 2 then 1 else 2), yIt S h t j v l ρ), k')) := sorry
end Rs
end
section
section Rt
variable {μ μ' μ'' μ0 : ab_M} {d : Nat} {S : SF} {N : NF} {T : Nat → Int} {n : Nat} {k : Tok} {h : He} {s r t j la uM pM pM' : Nat} {al : Nat → Bool} {ε : Nat → Nat} {ρ it : Option Nat}
def frPkT (pM : Nat) (μ μ' : ab_M) : Prop := ∀ a i, (a ≠ 7868 ∨ i ≠ 12) → (a ≠ 7879 ∨ i < 108000 + pM ∨ 117000 ≤ i) → μ' a i = μ a i
theorem tw_kpt20 {l : List Int} (p9 : pM + l.length < 9000) (l6 : l.length ≤ 60) : ∀ (w i : Nat) (μ' : ab_M), i + w = l.length → μ' 7756 16 = l.length → (∀ y x, l[y]? = some x → μ' 7761 y = x) → μ' 7868 12 = ((pM + i : Nat) : Int) → (∀ y x, y < i → l[y]? = some x → μ' 7879 (108000 + pM + y) = x) → frPkT pM μ μ' → ∃ μ'', (ab_run wt (d + 2) 131 20 [(2, 7756), (0, 12), (0, i)] [] μ') = some ((3, 0), μ'') ∧ μ'' 7868 12 = ((pM + l.length : Nat) : Int) ∧ (∀ y x, l[y]? = some x → μ'' 7879 (108000 + pM + y) = x) ∧ frPkT pM μ μ'' := sorry
theorem tw_keepPT (ty : TY S N T n s μ k h al ε uM pM) (h0 : 0 < h.1 ∧ al 0 = true) (k4 : k.1 = 4) (p9 : pM ≤ 8000) : ∃ μ', (ab_run wt (d + 2) 131 0 [(2, 7756), (0, 12), (3, 0)] [] μ) = some ((3, 0), μ') ∧ TY S N T n s μ' k h al ε uM (pM + k.2.2.2.2.length) ∧ μ' 7756 164 = pM ∧ μ' 7756 165 = k.2.2.2.2.length ∧ tBy μ' 7879 (108000 + pM) k.2.2.2.2 ∧ frTy μ μ' ∧ ∀ i, 233 ≤ i → μ' 7756 i = μ 7756 i := sorry
end Rt
end
section
section Ru
variable {μ μ' μ'' μ0 : ab_M} {d : Nat} {S : SF} {N : NF} {T : Nat → Int} {n : Nat} {k k2 : Tok} {h : He} {s r t j la uM pM pM' : Nat} {al : Nat → Bool} {ε : Nat → Nat} {ρ it : Option Nat}
noncomputable def yNz (T : Nat → Int) (n : Nat) (k : Tok) : Flt ⊕ (Int × Tok) := if isSg k 45 then (match xAdv T n k with
    | .inl f => .inl f
    | .inr k1 => if k1.1 = 3 then .inr (-k1.2.2.2.1, k1) else .inl (2, (k1.2.1 : Int)))
  else .inr (k.2.2.2.1, k)
noncomputable def yEn (S : SF) (T : Nat → Int) (n : Nat) (h : He) (ρ : Option Nat) (t j : Nat) (v : Int) (l : List Int) (k : Tok) : Flt ⊕ (Nat × Option Nat × Tok) := match yTl T n k with
  | .inl f => .inl f
  | .inr k' => .inr ((if S 11 t j = 2 then 1 else 2), yIt S h t j v l ρ, k')
theorem yLk_eq (m2 : S 11 t j = 2) (hk : k.1 = 3 ∨ isSg k 45) : yLk T n h ρ j k = match yNz T n k with
    | .inl f => .inl f
    | .inr p => yEn S T n h ρ t j p.1 [] p.2 := sorry
theorem rdS_n {q : Int} (q1 : 1 ≤ q) (q2 : q ≤ 8) (hk : k.1 = 3 ∨ isSg k 45) : rdS S N T n q 0 k = match yNz T n k with
    | .inl f => .inl f
    | .inr p => if kFb q p.1 = true then .inr (p.1, [], p.2) else .inl (7, (k.2.1 : Int)) := sorry
theorem yMk_tl (m2 : ¬ S 11 t j = 2) {v : Int} {l : List Int} {kz : Tok} (e : rdS S N T n (S 14 t j) 0 k = .inr (v, l, kz)) : yMk S N T n h ρ t j k = yEn S T n h ρ t j v l kz := sorry
theorem yMk_f {f : Flt} (e : rdS S N T n (S 14 t j) 0 k = .inl f) : yMk S N T n h ρ t j k = .inl f := sorry
def yLf (ρ : Option Nat) (t j : Nat) : Flt ⊕ (Nat × Option Nat × Tok) → Flt ⊕ (Cu × Tok)
  | .inl f => .inl f
  | .inr p => .inr ((ρ, t, j, p.1, p.2.1), p.2.2)
theorem yLf_en {v : Int} {l : List Int} : yLf ρ t j (yEn S T n h ρ t j v l k) = match yTl T n k with
      | .inl f => .inl f
      | .inr k' => .inr ((ρ, t, j, (if S 11 t j = 2 then 1 else 2), yIt S h t j v l ρ), k') := sorry
theorem FtP.wr {x y : Int} (e : μ 7756 17 = 0) (q3 : frTy μ0 μ) : FtP (ab_cal (ab_run wt (d + 1) 340 0 [(2, 7756), (0, x), (0, y)] [] μ) 0 (fun r1 μ1 => some ((4, r1), μ1)) (fun r1 μ1 => if r1 = 0 ∨ r1 = 1 then some ((0, r1), μ1) else none)) μ0 (x, y) := sorry
theorem tw_si202 {v dv : Int} {p : Nat} (ty : TY S N T n s μ k h al ε uM pM) (h0 : 0 < h.1 ∧ al 0 = true) (hg : hG S h) (tO : (t : Int) < S 0 0 0 ∧ S 2 t 0 = 1) (hj : j < fCt S t) (hm : S 11 t j = 2 ∨ S 11 t j = 3 ∧ S 14 t j ≤ 8) (hρ : ∀ r, ρ = some r → r < h.1 ∧ h.2.1 r = t) (hα : ∀ r, ρ = some r → al r = true) (hl : ∀ r, ρ = some r → (h.2.2.1 r j).length < 100000) (p2 : pM ≤ 2000 + k.2.2.1) (c1 : μ 7756 234 = fX s t j) (c3 : tRc μ ε ρ) (v2 : lng v) (q3 : frTy μ0 μ) (qd : μ 7756 239 = dv) :
    tYr S N T n s μ0 h al ε uM (some ((v, []), dv)) (ab_run wt (d + 7) 294 202 [(2, 7756), (0, 12), (3, 0), (3, 0), (0, p), (3, 0), (0, 0), (0, (S 11 t j)), (3, 0), (0, (fX s t j)), (3, 0), (3, 0)] [(1, v)] μ) (yLf ρ t j (if S 11 t j = 3 ∧ ¬ kFb (S 14 t j) v = true then .inl (7, (p : Int)) else yEn S T n h ρ t j v [] k)) := sorry
end Ru
end
section
section Rv
variable {μ μ' μ'' μ0 : ab_M} {d : Nat} {S : SF} {N : NF} {T : Nat → Int} {n : Nat} {k k2 : Tok} {h : He} {s r t j la uM pM pM' : Nat} {al : Nat → Bool} {ε : Nat → Nat} {ρ it : Option Nat}
theorem FtP.ca (c : tT μ T n k) (q3 : frTy μ0 μ) : FtP (ab_cal (ab_run wt (d + 2) 21 0 [(2, 7756)] [] μ) 0 (fun r1 μ1 => some ((4, r1), μ1)) (fun r1 μ1 => if r1 = 0 ∨ r1 = 1 then some ((0, r1), μ1) else none)) μ0 (2, (k.2.1 : Int)) := sorry
theorem tw_si240t {v dv : Int} {p : Nat} (ty : TY S N T n s μ k h al ε uM pM) (h0 : 0 < h.1 ∧ al 0 = true) (hg : hG S h) (hj : j < fCt S t) (m3 : S 11 t j = 3) (k4 : k.1 = 4) (hρ : ∀ r, ρ = some r → r < h.1 ∧ h.2.1 r = t) (hα : ∀ r, ρ = some r → al r = true) (hl : ∀ r, ρ = some r → (h.2.2.1 r j).length < 100000) (p2 : pM ≤ 2000 + k.2.1) (c1 : μ 7756 234 = fX s t j) (c3 : tRc μ ε ρ) (q3 : frTy μ0 μ) (qd : μ 7756 239 = dv) :
    tYr S N T n s μ0 h al ε uM (some ((0, k.2.2.2.2), dv)) (ab_run wt (d + 7) 294 240 [(2, 7756), (0, 12), (3, 0), (3, 0), (0, p), (3, 0), (0, 1), (0, 3), (3, 0), (0, (fX s t j)), (1, v), (3, 0)] [] μ) (yLf ρ t j (if utf k.2.2.2.2 = true then yEn S T n h ρ t j 0 k.2.2.2.2 k else .inl (7, (p : Int)))) := sorry
theorem yKe_m {v : Int} {l : List Int} {kz : Tok} {x : Nat × Option Nat × Tok} (m3 : S 11 t j = 3) (e : rdS S N T n (S 14 t j) 0 k = .inr (v, l, kz)) (ey : yMk S N T n h ρ t j k = .inr x) : yKe S N T n t j k = (v, l) := sorry
theorem yKe_l {p : Int × Tok} {x : Nat × Option Nat × Tok} (m3 : S 11 t j ≠ 3) (hk : k.1 = 3 ∨ isSg k 45) (e : yNz T n k = .inr p) (ey : yLk T n h ρ j k = .inr x) : yKe S N T n t j k = (p.1, []) := sorry
theorem yLf_inr {R : Flt ⊕ (Nat × Option Nat × Tok)} {c : Cu} {k' : Tok} (e : yLf ρ t j R = .inr (c, k')) : ∃ x, R = .inr x := sorry
theorem tw_stepItem {x2 dv : Int} (ty : TY S N T n s μ k h al ε uM pM) (h0 : 0 < h.1 ∧ al 0 = true) (hg : hG S h) (tO : (t : Int) < S 0 0 0 ∧ S 2 t 0 = 1) (hj : j < fCt S t) (hρ : ∀ r, ρ = some r → r < h.1 ∧ h.2.1 r = t) (hα : ∀ r, ρ = some r → al r = true) (hl : ∀ r, ρ = some r → (h.2.2.1 r j).length < 100000) (p2 : pM ≤ 2000 + k.2.1) (c1 : μ 7756 234 = fX s t j) (c2 : μ 7756 237 = 0) (c3 : tRc μ ε ρ) (q3 : frTy μ0 μ) (qd : μ 7756 239 = dv) :
    tYr S N T n s μ0 h al ε uM (some (yK1 S N T n t j k, dv)) (ab_run wt (d + 7) 294 0 [(2, 7756), (0, 12), (0, x2), (3, 0), (3, 0), (3, 0), (3, 0), (3, 0), (3, 0), (3, 0), (3, 0), (3, 0)] [] μ) (yLf ρ t j (yI0 S N T n h ρ t j k)) := sorry
end Rv
end
section
section Rw
variable {μ μ' μ'' μ0 : ab_M} {d : Nat} {S : SF} {N : NF} {T : Nat → Int} {n : Nat} {k k2 : Tok} {h : He} {s r t j la uM pM pM' : Nat} {al : Nat → Bool} {ε : Nat → Nat} {ρ it : Option Nat}
theorem tw_step {x3 dv : Int} {key : Int × List Int} (ty : TY S N T n s μ k h al ε uM pM) (h0 : 0 < h.1 ∧ al 0 = true) (k1 : k.1 = 1) (tO : (t : Int) < S 0 0 0 ∧ S 2 t 0 = 1) (hρ : ∀ r, ρ = some r → r < h.1 ∧ h.2.1 r = t) (hα : ∀ r, ρ = some r → al r = true) (p2 : pM ≤ 2000 + k.2.1) (c3 : tRc μ ε ρ) (q3 : frTy μ0 μ) (qd : μ 7756 239 = dv) :
    tYr S N T n s μ0 h al ε uM (some (key, dv)) (ab_run wt (d + 5) 293 0 [(2, 7756), (0, 12), (0, (((30 * s + t : Nat) : Int))), (0, x3), (3, 0)] [] μ) (if nFd (N 1 t) (tkN T k) (fCt S t) 0 < 0 then .inl (5, (k.2.1 : Int)) else match xAdv T n k with
      | .inl f => .inl f
      | .inr k1 => .inr ((ρ, t, (nFd (N 1 t) (tkN T k) (fCt S t) 0).toNat, 0, none), k1)) := sorry
theorem tw_into (ty : TY S N T n s μ k h (fun _ => true) ε uM pM) (h0 : 0 < h.1) (tO : (t : Int) < S 0 0 0 ∧ S 2 t 0 = 1) (hj : j < fCt S t) (k12 : S 12 t j = 12) (io : itO S h ρ t j la it) (cu : tCu S μ s pM ε h (ρ, t, j, la, it)) (q3 : frTy μ0 μ) :
    ∃ μ', (ab_run wt (d + 1) 81 0 [(2, 7756), (0, 0)] [] μ) = some ((0, 1), μ') ∧ TY S N T n s μ' k h (fun _ => true) ε uM pM ∧ tRc μ' ε (yRc h ρ j la it) ∧ frTy μ0 μ' ∧ ∀ a i, (a ≠ 7756 ∨ i < 233) → μ' a i = μ a i := sorry
end Rw
end
section
section Rx
variable {μ μ' μ'' μ0 : ab_M} {d : Nat} {S : SF} {N : NF} {T : Nat → Int} {n : Nat} {k k2 : Tok} {h : He} {s r t j la uM pM pM' : Nat} {ε : Nat → Nat} {ρ it : Option Nat}
noncomputable def tEr (d s t : Nat) (μ : ab_M) : ab_R := if μ 7756 8 = 1 then ab_cal (ab_run wt (d + 7) 293 0 [(2, 7756), (0, 12), (0, (((30 * s + t : Nat) : Int))), (0, 0), (3, 0)] [] μ) 0 (fun r1 μ1 => some ((4, r1), μ1)) (fun r8 μ8 => if r8 = 0 then some ((0, 0), μ8) else (ab_run wt (d + 8) 207 70 [(2, 7756), (0, 12), (0, 0), (3, 0), (3, 0), (3, 0)] [] μ8)) else ab_cal (ab_run wt (d + 7) 21 0 [(2, 7756)] [] μ) 0 (fun r1 μ1 => some ((4, r1), μ1)) (fun r9 μ9 => if r9 = 0 ∨ r9 = 1 then some ((0, r9), μ9) else none)
theorem tw_siBad {al : Nat → Bool} {x2 : Int} (ty : TY S N T n s μ k h al ε uM pM) (h0 : 0 < h.1 ∧ al 0 = true) (tO : (t : Int) < S 0 0 0 ∧ S 2 t 0 = 1) (hj : j < fCt S t) (c1 : μ 7756 234 = fX s t j) (c2 : μ 7756 237 ≠ 0) (q3 : frTy μ0 μ) :
    tYr S N T n s μ0 h al ε uM none (ab_run wt (d + 7) 294 0 [(2, 7756), (0, 12), (0, x2), (3, 0), (3, 0), (3, 0), (3, 0), (3, 0), (3, 0), (3, 0), (3, 0), (3, 0)] [] μ) (match xAdv T n k with
        | .inl f => .inl f
        | .inr k4 => if k4.1 = 4 ∨ (k4.1 = 3 ∨ isSg k4 45) then .inl (5, (k.2.1 : Int)) else .inl (2, (k4.2.1 : Int))) := sorry
theorem tw_p70 {c : Nat} (ty : TY S N T n s μ k h (fun _ => true) ε uM pM) (h0 : 0 < h.1) (u : hU S h) (tO : (t : Int) < S 0 0 0 ∧ S 2 t 0 = 1) (hj : j < fCt S t) (hρ : ∀ r, ρ = some r → r < h.1 ∧ h.2.1 r = t) (io : itO S h ρ t j la it) (p2 : pM ≤ 2000 + k.2.1) (cu : tCu S μ s pM ε h (ρ, t, j, la, it)) (nb : la = 0 → ¬ isSg k 91) (hn : n ≤ k.2.1 + c) (q3 : frTy μ0 μ)
    (R : ∀ (μ : ab_M) (k : Tok) (ρ : Option Nat) (t pM : Nat), TY S N T n s μ k h (fun _ => true) ε uM pM → n < k.2.1 + c → ((t : Int) < S 0 0 0 ∧ S 2 t 0 = 1) → (∀ r, ρ = some r → r < h.1 ∧ h.2.1 r = t) → pM ≤ 2000 + k.2.1 → tRc μ ε ρ → frTy μ0 μ → tYr S N T n s μ0 h (fun _ => true) ε uM none (tEr d s t μ) (yPt S N T n h c ρ t k)) :
    tYr S N T n s μ0 h (fun _ => true) ε uM none (ab_run wt (d + 8) 207 70 [(2, 7756), (0, 12), (0, 0), (3, 0), (3, 0), (3, 0)] [] μ) (yBe S N T n h c ρ t j la it k) := sorry
end Rx
end
section
section Ry
variable {μ μ' μ'' μ0 : ab_M} {d : Nat} {S : SF} {N : NF} {T : Nat → Int} {n : Nat} {k k2 : Tok} {h : He} {s r t j la uM pM pM' : Nat} {ε : Nat → Nat} {ρ it : Option Nat}
theorem yI0_la {k' : Tok} (e : yI0 S N T n h ρ t j k = .inr (la, it, k')) : la ≠ 0 := sorry
theorem tw_er (h0 : 0 < h.1) (u : hU S h) (hg : hG S h) (hL : ∀ r j, r < h.1 → j < fCt S (h.2.1 r) → (h.2.2.1 r j).length < 100000) : ∀ (c : Nat) (μ : ab_M) (k : Tok) (ρ : Option Nat) (t pM : Nat), TY S N T n s μ k h (fun _ => true) ε uM pM → n < k.2.1 + c → ((t : Int) < S 0 0 0 ∧ S 2 t 0 = 1) → (∀ r, ρ = some r → r < h.1 ∧ h.2.1 r = t) → pM ≤ 2000 + k.2.1 → tRc μ ε ρ → frTy μ0 μ → tYr S N T n s μ0 h (fun _ => true) ε uM none (tEr d s t μ) (yPt S N T n h c ρ t k) := sorry
theorem tw_path (ty : TY S N T n s μ k h (fun _ => true) ε uM pM) (h0 : 0 < h.1) (u : hU S h) (hg : hG S h) (ht : hTy S h) (e0 : ε 0 = 55200) (hL : ∀ r j, r < h.1 → j < fCt S (h.2.1 r) → (h.2.2.1 r j).length < 100000) (p2 : pM ≤ 2000 + k.2.1) {c : Nat} (hn : n < k.2.1 + c) :
    tYr S N T n s μ h (fun _ => true) ε uM none (ab_run wt (d + 8) 207 0 [(2, 7756), (0, 12), (0, 0), (3, 0), (3, 0), (3, 0)] [] μ) (yPt S N T n h c (some 0) (h.2.1 0) k) := sorry
end Ry
end
section
section Sa
variable {μ μ' μ'' μ0 : ab_M} {d : Nat} {S : SF} {N : NF} {T : Nat → Int} {n : Nat} {k k2 : Tok} {h : He} {s r t j la uM pM row : Nat} {ε : Nat → Nat} {ρ it : Option Nat}
def tAk (row : Nat) (run : ab_R) (μ : ab_M) (y : Int × Int × Option (List Int)) : Prop := ∃ μ', run = some ((0, y.1), μ') ∧ μ' 7756 244 = y.2.1 ∧ (∀ a i, (a ≠ 7756 ∨ i ≠ 244) → (a ≠ 7759 ∨ i ≠ row) → (a ≠ 7758 ∨ i < 4000 * row ∨ 4000 * row + 4000 ≤ i) → μ' a i = μ a i) ∧ match y.2.2 with
  | none => ∀ a i, a = 7759 ∨ a = 7758 → μ' a i = μ a i
  | some l => μ' 7759 row = l.length ∧ tBy μ' 7758 (4000 * row) l
theorem tAk.num {x y : Int} : tAk row (some ((0, x), ab_up μ 7756 244 y)) μ (x, y, none) := sorry
theorem tAk.no (e : μ 7756 244 = 0) : tAk row (some ((0, 0), μ)) μ (0, 0, none) := sorry
theorem tw_an238 {l : List Int} {x2 : Int} (r8 : row < 8) (l4 : l.length ≤ 4000) (nx : ∀ (y : Nat) (x : Int) (μ' : ab_M), l[y]? = some x → (∀ a i, a ≠ 7758 → μ' a i = μ a i) → ∀ X : ab_R, (if μ' 7756 235 < 0 then (if 0 ≤ (w32 ((w32 (60 * x2)) + (y : Int))) ∧ (w32 ((w32 (60 * x2)) + (y : Int))) < 220000 then (if 0 ≤ (w32 ((w32 (4000 * (row : Int))) + (y : Int))) ∧ (w32 ((w32 (4000 * (row : Int))) + (y : Int))) < 32000 then (ab_run wt (d + 4) 3 238 [(2, 7756), (0, row), (0, x2), (3, 0), (0, (l.length)), (0, (w32 ((y : Int) + 1)))] [] (ab_up μ' 7758 (w32 ((w32 (4000 * (row : Int))) + (y : Int))).toNat (μ' 7806 (w32 ((w32 (60 * x2)) + (y : Int))).toNat))) else none) else none) else X) = (ab_run wt (d + 4) 3 238 [(2, 7756), (0, row), (0, x2), (3, 0), (0, (l.length)), (0, (((y + 1 : Nat) : Int)))] [] (ab_up μ' 7758 (4000 * row + y) x)) ∨ (¬ μ' 7756 235 < 0 ∧ (ab_run wt (d + 3) 16 0 [(2, 7756), (0, (μ' 7756 235)), (0, y)] [] μ') = some ((0, x), μ'))) :
    ∀ (w i : Nat) (μ' : ab_M), i + w = l.length → (∀ a y, a ≠ 7758 → μ' a y = μ a y) → (∀ y, (y < 4000 * row ∨ 4000 * row + 4000 ≤ y) → μ' 7758 y = μ 7758 y) → (∀ y x, y < i → l[y]? = some x → μ' 7758 (4000 * row + y) = x) → tAk row (ab_run wt (d + 4) 3 238 [(2, 7756), (0, row), (0, x2), (3, 0), (0, (l.length)), (0, i)] [] μ') μ (2, l.length, some l) := sorry
end Sa
end
section
section Sb
variable {μ μ' μ'' μ0 : ab_M} {d : Nat} {S : SF} {N : NF} {T : Nat → Int} {n : Nat} {k k2 : Tok} {h : He} {s r t j la uM pM row : Nat} {ε : Nat → Nat} {ρ it : Option Nat}
theorem tw_an140 (ts : TS μ s S N) (r8 : row < 8) (tO : (t : Int) < S 0 0 0 ∧ S 2 t 0 = 1) (hj : j < fCt S t) {q : It} (hp : pM ≤ 9000) (hq : (μ 7756 235 < 0 ∧ q = (0, [], S 19 t j, N 7 t j, 0) ∧ S 12 t j ≠ 12) ∨ ∃ i : Nat, μ 7756 235 = i ∧ i < 73600 ∧ i / 4600 = 12 ∧ tEn S μ 12 s pM ε t i (j, q)) (l4 : q.2.2.2.1.length ≤ 4000) :
    tAk row (ab_run wt (d + 4) 3 140 [(2, 7756), (0, row), (0, (fX s t j)), (3, 0), (3, 0), (3, 0)] [] μ) μ (if S 12 t j = 12 then (3, S 13 t j, none) else if S 12 t j ≤ 8 ∨ S 12 t j = 11 then (1, q.2.2.1, none) else (2, q.2.2.2.1.length, some q.2.2.2.1)) := sorry
theorem tw_answer {c : Cu} (ty : TY S N T n s μ k h (fun _ => true) ε uM pM) (r8 : row < 8) (co : cuO S h c) (cu : tCu S μ s pM ε h c) (a0 : μ 7756 244 = 0) (lx : ∀ r j, r < h.1 → j < fCt S (h.2.1 r) → (h.2.2.1 r j).length < 100000 ∧ ∀ q ∈ h.2.2.1 r j, q.2.2.2.1.length ≤ 4000) :
    tAk row (ab_run wt (d + 4) 3 0 [(2, 7756), (0, row), (3, 0), (3, 0), (3, 0), (3, 0)] [] μ) μ (yAn S N h c) := sorry
end Sb
end
section
section Sc
variable {μ μ' μ'' μ0 : ab_M} {d : Nat} {S : SF} {N : NF} {h g : He} {s k row : Nat} {tp : List Int}
def frAt (row : Nat) (μ μ' : ab_M) : Prop := ∀ a i, ¬ mine 12 a i → (a < 7862 ∨ 7864 < a ∨ i ≠ 12) → a ≠ 7885 → a ≠ 7886 → a ≠ 7760 → a ≠ 7761 → (a ≠ 7759 ∨ i ≠ row) → (a ≠ 7758 ∨ i < 4000 * row ∨ 4000 * row + 4000 ≤ i) → (a ≠ 7756 ∨ i ≠ 1 ∧ i ≠ 4 ∧ i ≠ 6 ∧ (i < 7 ∨ 18 < i) ∧ (i < 154 ∨ 167 < i) ∧ (i < 233 ∨ 244 < i)) → μ' a i = μ a i
theorem tw_ask {rw' : Nat → List Int} (hk : k < 12) (hw : row < 8) (c : tR μ tp rw') (hb : ∀ x ∈ tp, 0 ≤ x ∧ x < 256) (g0 : S 99 0 0 = 0) (fl : μ 7862 k = 0 ∨ μ 7862 k = 1 ∧ mT S N μ k s g ∧ hEq S h g ∧ mS S h ∧ hWell S h ∧ hDn S h (fun _ => true)) (hx : ∀ r j, r < h.1 → j < fCt S (h.2.1 r) → (h.2.2.1 r j).length < 100000 ∧ ∀ q ∈ h.2.2.1 r j, q.2.2.2.1.length ≤ 4000) :
    R0 (ab_run wt (d + 9) 4 0 [(2, 7756), (0, k), (0, row)] [] μ) (fun v μ' => if μ 7862 k = 0 then v = -2 ∧ μ' = μ else μ' 7756 1 = 0 ∧ frAt row μ μ' ∧ match yAk S N (tpT tp) tp.length h with
      | .inl f => v = w32 (-10 - f.1) ∧ μ' 7756 4 = f.2 ∧ μ' 7756 244 = 0 ∧ ∀ a i, a = 7759 ∨ a = 7758 → μ' a i = μ a i
      | .inr cu => v = (yAn S N h cu).1 ∧ μ' 7756 4 = -2 ∧ μ' 7756 244 = (yAn S N h cu).2.1 ∧ match (yAn S N h cu).2.2 with
        | none => ∀ a i, a = 7759 ∨ a = 7758 → μ' a i = μ a i
        | some l => μ' 7759 row = l.length ∧ tBy μ' 7758 (4000 * row) l) := sorry
end Sc
end
section
section Ta
variable {S : SF} {N : NF} {h h' : He} {r j : Nat}
def lsH (h h' : He) : Prop := h'.1 = h.1 ∧ h'.2.1 = h.2.1 ∧ h'.2.2.2 = h.2.2.2 ∧ ∀ r j, (h'.2.2.1 r j).Sublist (h.2.2.1 r j)
def yDl (h : He) (c : Cu) : He := match c.1 with
  | none => h
  | some r => (h.1, h.2.1, upV h.2.2.1 r c.2.2.1 (if c.2.2.2.1 = 0 then [] else match c.2.2.2.2 with
    | none => h.2.2.1 r c.2.2.1
    | some p => (h.2.2.1 r c.2.2.1).eraseIdx p), h.2.2.2)
theorem yDl_ls {c : Cu} : lsH h (yDl h c) := sorry
theorem hIn.ls {D : Nat → Nat} (i : hIn S h D) (l : lsH h h') : hIn S h' D := sorry
theorem hU.ls (i : hU S h) (l : lsH h h') : hU S h' := sorry
theorem sumI_sub {F : Nat → Int} (e : ∀ x, 0 ≤ F x) {L L' : List It} (s : L'.Sublist L) : sumI F L' ≤ sumI F L := sorry
theorem byV_sub {L L' : List It} (s : L'.Sublist L) : byV L' ≤ byV L := sorry
theorem wgV_sub {m : Int} {L L' : List It} (s : L'.Sublist L) : wgV m L' ≤ wgV m L := sorry
theorem mz_ls {F G : Nat → Int} (l : lsH h h') (e : ∀ x, F x ≤ G x) (p : ∀ x, 0 ≤ F x) : ∀ c r, 0 ≤ mz S h' F c r ∧ mz S h' F c r ≤ mz S h G c r := sorry
theorem vlS_ls (l : lsH h h') : vlS S h' ≤ vlS S h ∧ btS S h' ≤ btS S h := sorry
end Ta
end
section
section Tb
variable {μ μ' μ'' : ab_M} {d : Nat} {A cr ci cb b : Nat} {S : SF} {N : NF} {n : Nat} {ty : Nat → Nat} {V : Nat → Nat → List It} {U : Nat → List Un} {ni nu us r j la : Nat} {X : Rsv}
def itP (μ : ab_M) (A s : Nat) : Nat → Int
  | 0 => -1
  | q + 1 => itm μ A s q
theorem c_ta38 {s p i so ks : Nat} {L : List It} {c : List Nat} (hm : isM A cr ci cb) (hi : ni ≤ ci) (my : cMy μ A us ni so ks s L c) (hp : c[p]? = some i) (ec : μ 1 50 = i) : ∀ (w q : Nat), q + w = p → (ab_run wc (d + 1) 546 38 [(2, 1), (2, A), (0, s), (0, (itP μ A s q)), (0, (itm μ A s q))] [] μ) = (ab_run wc (d + 1) 546 38 [(2, 1), (2, A), (0, s), (0, (itP μ A s p)), (0, i)] [] μ) := sorry
noncomputable def tkM (μ : ab_M) (A s i : Nat) (pv : Int) : ab_M :=
  let μ1 := if pv < 0 then ab_up μ (msA A 14) s (μ (msA A 22) i) else ab_up μ (msA A 22) pv.toNat (μ (msA A 22) i)
  if μ1 (msA A 15) s = i then ab_up (ab_up μ1 (msA A 15) s pv) (msA A 16) s (w32 (μ (msA A 16) s - 1)) else ab_up μ1 (msA A 16) s (w32 (μ (msA A 16) s - 1))
theorem c_tkM {s i : Nat} {pv : Int} (hm : isM A cr ci cb) (hs : s < 24 * cr) (hi : i < ci) (hp : pv = -1 ∨ 0 ≤ pv ∧ pv < ci) (ec : μ 1 50 = i) : (ab_run wc (d + 1) 546 38 [(2, 1), (2, A), (0, s), (0, pv), (0, i)] [] μ) = some ((3, 0), tkM μ A s i pv) := sorry
theorem tkM_my {s i p so ks : Nat} {L : List It} {c : List Nat} (my : cMy μ A us ni so ks s L c) (hp : c[p]? = some i) (L5 : L.length < 1000000) :
    (∀ a x, (a ≠ msA A 14 ∨ x ≠ s) → (a ≠ msA A 15 ∨ x ≠ s) → (a ≠ msA A 16 ∨ x ≠ s) → (a ≠ msA A 22 ∨ x ∉ c) → tkM μ A s i (itP μ A s p) a x = μ a x) ∧ cMy (tkM μ A s i (itP μ A s p)) A us ni so ks s (L.eraseIdx p) (c.eraseIdx p) := sorry
theorem c_takeAway {h : He} {it : Option Nat} (hm : isM A cr ci cb) (hr : r < h.1) (hj : j < fCt S (h.2.1 r)) (cm : CM X S μ A cr ci cb h.1 h.2.1 h.2.2.1 h.2.2.2 ni nu us) (io : itO S h (some r) (h.2.1 r) j la it) (ik : la ≠ 0 → it ≠ none) (cu : cCu S μ A h (some r, h.2.1 r, j, la, it)) :
    R3 (ab_run wc (d + 2) 546 0 [(2, 1), (2, A), (3, 0), (3, 0), (3, 0)] [] μ) (fun μ' => CM X S μ' A cr ci cb h.1 h.2.1 (yDl h (some r, h.2.1 r, j, la, it)).2.2.1 h.2.2.2 ni nu us ∧ frM A μ μ') := sorry
end Tb
end
section
section Tc
variable {μ μ' μ'' : ab_M} {d : Nat} {A cr ci cb : Nat} {S : SF} {N : NF} {h : He} {k s bs : Nat} {tp : List Int} {ni nu us r j : Nat} {X : Rsv}
theorem CM.hx (cm : CM X S μ A cr ci cb h.1 h.2.1 h.2.2.1 h.2.2.2 ni nu us) (hi : hI S h) (cn : hCn S h) : ∀ r j, r < h.1 → j < fCt S (h.2.1 r) → (h.2.2.1 r j).length ≤ ni + 1 ∧ ∀ q ∈ h.2.2.1 r j, q.2.2.2.1.length ≤ us := sorry
theorem yAn_nz {c : Cu} (e : (yAn S N h c).1 ≠ 0) : ∃ r, c.1 = some r ∧ (c.2.2.2.1 ≠ 0 → c.2.2.2.2 ≠ none) := sorry
def frRm (k : Nat) (μ μ' : ab_M) : Prop := ∀ a i, ¬ inM 1255 a → ¬ inM (6314 + 27 * k) a → a ≠ 2 → (a ≠ 3 ∨ i ≠ 1) → a ≠ 8 → a ≠ 9 → a ≠ 1309 → (a ≠ 1333 ∨ i ≠ 1) → a ≠ 1334 → (a ≠ 1 ∨ i ≠ 3 ∧ i ≠ 18 ∧ i ≠ 20 ∧ (i < 48 ∨ 53 < i) ∧ (i < 14 ∨ 17 < i)) → μ' a i = μ a i
def wkC (S : SF) (h hw : He) : Prop := hEq S h hw ∧ mS S hw ∧ hWell S hw ∧ hDn S hw (fun _ => true) ∧ hNm S hw ∧ ∀ r j, r < hw.1 → j < fCt S (hw.2.1 r) → (hw.2.2.1 r j).length < 1000 ∧ ∀ q ∈ hw.2.2.1 r j, q.2.2.2.1.length ≤ 4000
theorem isRw1333 : isRw 1333 1334 4000 := sorry
theorem c_wkC {D : Nat} (hD : 9000 ≤ D) (hk : k < 12) (mc : mC S N μ k s bs h) (ms : mS S h) : R3 (ab_run wc ((D + 1)) 373 0 [(2, 1), (2, 1255), (2, (((6314 + 27 * k : Nat) : Int)))] [] μ) (fun μ' => ∃ hw, wkC S h hw ∧ (vlS S hw = vlS S h ∧ btS S hw = btS S h) ∧ dpS S hw ≤ 12 ∧ cSto S N μ' 1255 2600 9000 12000 s bs hw ∧ frA 1255 μ μ' ∧ ∃ ni nu us : Nat, us ≤ 2000 ∧ CM (fun _ => none) S μ' 1255 2600 9000 12000 hw.1 hw.2.1 hw.2.2.1 hw.2.2.2 ni nu us) := sorry
end Tc
end
section
section Td
variable {μ μ' μ'' : ab_M} {S : SF} {N : NF} {h : He} {k s bs : Nat} {tp : List Int}
theorem cT.l {T : Nat → Int} {n : Nat} {k : Tok} (c : cT μ T n k) (g : ∀ a, a < 1255 → ∀ i, μ' a i = μ a i) : cT μ' T n k := sorry
def cRm (S : SF) (N : NF) (μ : ab_M) (k s bs : Nat) (y : Flt ⊕ Cu) (hw : He) (v : Int) (μ' : ab_M) : Prop := match y with
  | .inl f => v = w32 (-10 - f.1) ∧ μ' 1 3 = f.2 ∧ ∀ a, inM (6314 + 27 * k) a → ∀ i, μ' a i = μ a i
  | .inr cu => if (yAn S N hw cu).1 = 0 then v = -2 ∧ μ' 1 3 = μ 1 3 ∧ ∀ a, inM (6314 + 27 * k) a → ∀ i, μ' a i = μ a i
    else v = vlS S (yDl hw cu) ∧ μ' 1 3 = -2 ∧ μ' (6314 + 27 * k) 0 = 1 ∧ ∃ h'', mC S N μ' k s bs h'' ∧ hEq S (yDl hw cu) h'' ∧ mS S h''
theorem c_remove {D : Nat} (hD : 9000 ≤ D) (hk : k < 12) (c : cRow μ 3 4 4000 tp) (fl : μ (6314 + 27 * k) 0 = 0 ∨ μ (6314 + 27 * k) 0 = 1 ∧ mC S N μ k s bs h ∧ mS S h) :
    R0 (ab_run wc ((D + 13)) 499 0 [(2, 1), (0, k), (3, 0), (3, 0), (3, 0), (3, 0)] [] μ) (fun v μ' => if μ (6314 + 27 * k) 0 = 0 then v = -2 ∧ μ' = μ else μ' 3 1 = 0 ∧ frRm k μ μ' ∧ ∃ hw, wkC S h hw ∧ cRm S N μ k s bs (yAk S N (tpT tp) tp.length hw) hw v μ') := sorry
end Td
end
section
section Te
variable {μ μ' μ'' μ0 : ab_M} {d : Nat} {S : SF} {N : NF} {h g hw : He} {s k : Nat} {tp : List Int}
theorem tEs_spl {m pM t e : Nat} {ε : Nat → Nat} : ∀ {c1 c2 : List Nat} {W : List We}, tEs S μ m s pM ε t (c1 ++ e :: c2) W → ∃ W1 x W2, W = W1 ++ x :: W2 ∧ c1.length = W1.length ∧ tEs S μ m s pM ε t c1 W1 ∧ tEn S μ m s pM ε t e x := sorry
theorem eraseIdx_mid {α : Type} {A B : List α} {x : α} {p : Nat} (hp : A.length = p) : (A ++ x :: B).eraseIdx p = A ++ B := sorry
theorem tw_takeAt {ε : Nat → Nat} {uM pM r j la p : Nat} (td : TD (fun _ => none) (fun _ => False) S N 12 s μ h (fun _ => true) ε uM pM) (hr : r < h.1) (hj : j < fCt S (h.2.1 r)) (hp : p < (h.2.2.1 r j).length) (en : tEt S μ 12 s pM ε (h.2.1 r) j (μ0 7756 235) (h.2.2.1 r j)[p]?) (lc : tLc μ (ε r) (fX s (h.2.1 r) j) (μ0 7756 235) p) :
    R3 (ab_run wt (d + 3) 301 0 [(2, 7756), (0, (ε r)), (0, (μ0 7756 235)), (3, 0), (3, 0), (3, 0), (3, 0)] [] μ) (fun μ' => ∃ cur, TM S μ' 12 s h.1 cur h.2.1 (upV h.2.2.1 r j ((h.2.2.1 r j).eraseIdx p)) h.2.2.2 ε uM pM ∧ TC S μ' 12 h.1 cur h.2.1 (upV h.2.2.1 r j ((h.2.2.1 r j).eraseIdx p)) h.2.2.2 ∧ frK 12 μ μ' ∧ noOr S h.1 cur h.2.1 (upV h.2.2.1 r j ((h.2.2.1 r j).eraseIdx p)) (fun _ => False)) := sorry
def frTm (k : Nat) (μ μ' : ab_M) : Prop := ∀ a i, ¬ mine 12 a i → ¬ mine k a i → (a < 7862 ∨ 7864 < a ∨ i ≠ 12 ∧ i ≠ k) → a ≠ 7885 → a ≠ 7886 → a ≠ 7760 → a ≠ 7761 → (a ≠ 7756 ∨ i ≠ 1 ∧ i ≠ 4 ∧ i ≠ 6 ∧ (i < 7 ∨ 18 < i) ∧ (i < 154 ∨ 167 < i) ∧ (i < 233 ∨ 243 < i)) → μ' a i = μ a i
def kpT (k : Nat) (μ μ' : ab_M) : Prop := ∀ a i, (mine k a i ∨ 7862 ≤ a ∧ a ≤ 7864 ∧ i = k) → a ≠ 7756 → a ≠ 7880 → μ' a i = μ a i
def tRm (S : SF) (N : NF) (μ : ab_M) (k s : Nat) (y : Flt ⊕ Cu) (hw : He) (v : Int) (μ' : ab_M) : Prop := match y with
  | .inl f => v = w32 (-10 - f.1) ∧ μ' 7756 4 = f.2 ∧ kpT k μ μ'
  | .inr cu => if (yAn S N hw cu).1 = 0 then v = -2 ∧ μ' 7756 4 = μ 7756 4 ∧ kpT k μ μ'
    else v = vlS S (yDl hw cu) ∧ μ' 7756 4 = -2 ∧ μ' 7862 k = 1 ∧ ∃ g'', mT S N μ' k s g'' ∧ hEq S (yDl hw cu) g''
theorem tw_remove {rw' : Nat → List Int} (hk : k < 12) (c : tR μ tp rw') (hb : ∀ x ∈ tp, 0 ≤ x ∧ x < 256) (g0 : S 99 0 0 = 0) (rz : rtZ μ k) (fl : μ 7862 k = 0 ∨ μ 7862 k = 1 ∧ mT S N μ k s g ∧ hEq S h g ∧ wkC S h hw) :
    R0 (ab_run wt (d + 9) 271 0 [(2, 7756), (0, k), (3, 0), (3, 0)] [] μ) (fun v μ' => if μ 7862 k = 0 then v = -2 ∧ μ' = μ else μ' 7756 1 = 0 ∧ frTm k μ μ' ∧ tRm S N μ k s (yAk S N (tpT tp) tp.length hw) hw v μ') := sorry
end Te
end
section
section Ua
variable {S : SF} {N : NF} {T : Nat → Int} {n : Nat} {h : He} {r t j la : Nat} {it : Option Nat} {key : Int × List Int} {k : Tok}
def yLo (h : He) (r j la : Nat) (it : Option Nat) (key : Int × List Int) : Prop := la = 1 ∧ it = none ∧ key.1 ≠ ((h.2.2.1 r j).length : Int)
def hoI : It := (0, [], 0, [], hole)
noncomputable def yAt (S : SF) (h : He) (r j : Nat) (key : Int × List Int) : Nat := if S 11 (h.2.1 r) j = 3 then (kTk (S 14 (h.2.1 r) j) key.1 key.2 (h.2.2.1 r j)).length else (h.2.2.1 r j).length
noncomputable def hHo (S : SF) (h : He) (r j : Nat) (key : Int × List Int) : He := (h.1, h.2.1, upV h.2.2.1 r j (if S 11 (h.2.1 r) j = 3 then kTk (S 14 (h.2.1 r) j) key.1 key.2 (h.2.2.1 r j) ++ kyI (S 14 (h.2.1 r) j) key.1 key.2 :: kDp (S 14 (h.2.1 r) j) key.1 key.2 (h.2.2.1 r j) else h.2.2.1 r j ++ [hoI]), h.2.2.2)
noncomputable def yNi (S : SF) (h : He) (r j la : Nat) (it : Option Nat) (key : Int × List Int) : He × Option Nat := @ite _ (la = 0) (Classical.propDecidable _) (h, none) (match it with
  | some p => (h, some p)
  | none => @ite _ (yLo h r j la none key) (Classical.propDecidable _) (if S 12 (h.2.1 r) j = 12 then hOrp h (S 13 (h.2.1 r) j).toNat else h, none) (if S 12 (h.2.1 r) j = 12 then hRec S h r j key else hHo S h r j key, some (yAt S h r j key)))
noncomputable def yEc (S : SF) (h : He) (r j la : Nat) (it : Option Nat) (key : Int × List Int) : He × Nat × Bool := match yRc h (some r) j la it with
  | some r' => (h, r', false)
  | none => @ite _ (yLo h r j la it key) (Classical.propDecidable _) (hOrp h (S 13 (h.2.1 r) j).toNat, h.1, true) (hRec S h r j key, h.1, false)
abbrev Pl := He × Nat × Nat × Nat × Option Nat × (Int × List Int) × Nat × Option He
def yNu (ν : Option He) (h : He) (b : Bool) : Option He := match ν with
  | some x => some x
  | none => if b = true then some h else none
noncomputable def yPc (S : SF) (N : NF) (T : Nat → Int) (n : Nat) : Nat → He → Nat → Nat → Option He → Tok → Flt ⊕ (Pl × Tok)
  | 0, _, _, _, _, _ => .inl ovr
  | c + 1, h, r, dp, ν, k => match ySt S N T n h (some r) (h.2.1 r) k with
    | .inl f => .inl f
    | .inr (j, la, it, k3) => if isSg k3 91 then (match xAdv T n k3 with
        | .inl f => .inl f
        | .inr k4 => if k4.1 = 4 ∨ (k4.1 = 3 ∨ isSg k4 45) then .inl (5, (k3.2.1 : Int)) else .inl (2, (k4.2.1 : Int)))
      else if isSg k3 46 then (if S 12 (h.2.1 r) j ≠ 12 ∨ (2 ≤ S 11 (h.2.1 r) j ∧ la = 0) then .inl (5, (k3.2.1 : Int)) else if dp = 12 then .inl (3, (k3.2.1 : Int)) else match xAdv T n k3 with
        | .inl f => .inl f
        | .inr k4 => yPc S N T n c (yEc S h r j la it (yKs S N T n (h.2.1 r) k)).1 (yEc S h r j la it (yKs S N T n (h.2.1 r) k)).2.1 (dp + 1) (yNu ν h (yEc S h r j la it (yKs S N T n (h.2.1 r) k)).2.2) k4)
      else .inr ((h, r, j, la, it, yKs S N T n (h.2.1 r) k, dp, ν), k3)
end Ua
end
section
section Ub
variable {μ μ' μ'' : ab_M} {d : Nat} {A cr ci cb b : Nat} {S : SF} {N : NF} {n : Nat} {ty : Nat → Nat} {V : Nat → Nat → List It} {U : Nat → List Un} {ni nu us : Nat} {X : Rsv}
theorem c_insKeyN {k : Int} {s a o : Nat} {ln : Int} {v : Int} {l : List Int} (hm : isM A cr ci cb) (hni : μ A 17 = ni) (hn : ni < ci) (hus : μ A 33 = us) (hl : kyA μ k a o ln l) (hin : k = 9 → ¬ inM A a) (hu : k = 9 → us + l.length ≤ cb) :
    ∃ μ1, (ab_run wc (d + 5) 411 0 [(2, 1), (2, A), (0, s), (2, (200000 + k)), (1, v), (3, 0), (2, a), (0, o), (0, ln), (3, 0), (3, 0), (3, 0)] [] μ) = (ab_run wc (d + 5) 411 48 [(2, 1), (2, A), (0, s), (2, (200000 + k)), (1, v), (3, 0), (2, a), (0, o), (0, ln), (0, ni), (3, 0), (3, 0)] [] μ1) ∧ kyM μ A ni us k v l μ1 ∧ μ1 (msA A 21) ni = -1 := sorry
theorem c_insertN {k : Int} {r j a o : Nat} {ln : Int} {v : Int} {l : List Int} (hm : isM A cr ci cb) (hr : r < n) (hj : j < fCt S (ty r)) (m3 : S 11 (ty r) j = 3) (hk : S 14 (ty r) j = k) (k1 : 1 ≤ k) (k2 : k ≤ 9) (hc : CM X S μ A cr ci cb n ty V U ni nu us) (hn : ni < ci) (hl : kyA μ k a o ln l) (hin : k = 9 → ¬ inM A a) (hu : k = 9 → us + l.length ≤ cb) (v2 : k ≠ 9 → lng v) (hv : ∀ t ∈ V r j, lng t.1) :
    ∃ s : Nat, s < 24 * cr ∧ (s : Int) < μ A 8 ∧ μ (msA A 5) r + j = s ∧ R0 (ab_run wc (d + 5) 411 0 [(2, 1), (2, A), (0, s), (2, (200000 + k)), (1, v), (3, 0), (2, a), (0, o), (0, ln), (3, 0), (3, 0), (3, 0)] [] μ) (fun x μ' => x = ni ∧ CM X S μ' A cr ci cb n ty (upV V r j (kTk k v l (V r j) ++ kyI k v l :: kDp k v l (V r j))) U (ni + 1) nu (kyU k us l) ∧ itm μ' A s (kTk k v l (V r j)).length = ni ∧ frM A μ μ' ∧ μ' (msA A 21) ni = -1) := sorry
theorem c_newItemN (hm : isM A cr ci cb) (hc : CM X S μ A cr ci cb n ty V U ni nu us) (hn : ni < ci) : R0 (ab_run wc (d + 1) 616 0 [(2, A)] [] μ) (fun x μ' => x = ni ∧ CM (upL X ni (some (3, 0, itN 0))) S μ' A cr ci cb n ty V U (ni + 1) nu us ∧ frM A μ μ' ∧ μ' (msA A 21) ni = -1) := sorry
theorem c_appendN {r j it : Nat} {t : It} (hm : isM A cr ci cb) (hr : r < n) (hj : j < fCt S (ty r)) (h1 : 2 ≤ S 11 (ty r) j) (hc : CM X S μ A cr ci cb n ty V U ni nu us) (hx : X it = some (fSo (S 12 (ty r) j), fKs (S 11 (ty r) j) (S 14 (ty r) j), t)) :
    ∃ s : Nat, s < 24 * cr ∧ (s : Int) < μ A 8 ∧ μ (msA A 5) r + j = s ∧ R3 (ab_run wc (d + 1) 611 0 [(2, A), (0, s), (0, it)] [] μ) (fun μ' => CM (upL X it none) S μ' A cr ci cb n ty (upV V r j (V r j ++ [t])) U ni nu us ∧ frM A μ μ' ∧ itm μ' A s (V r j).length = it ∧ ∀ i, μ' (msA A 21) i = μ (msA A 21) i) := sorry
end Ub
end
section
section Uc
variable {μ μ' μ'' μ0 : ab_M} {d : Nat} {S : SF} {N : NF} {T : Nat → Int} {n : Nat} {k : Tok} {h : He} {A cr ci cb kS b r j : Nat} {X : Rsv} {ni nu us : Nat}
def frC2 (A : Nat) (μ μ' : ab_M) : Prop := ∀ a i, ¬ inM A a → a ≠ 2 → a ≠ 8 → a ≠ 9 → a ≠ 1309 → (a ≠ 1 ∨ i ≠ 18 ∧ i ≠ 20 ∧ (i < 48 ∨ 53 < i)) → μ' a i = μ a i
theorem frC2.refl : frC2 A μ μ := sorry
theorem frC2.trans (f : frC2 A μ μ') (g : frC2 A μ' μ'') : frC2 A μ μ'' := sorry
theorem frC1.c2 (f : frC1 μ μ') : frC2 A μ μ' := sorry
theorem frP.c2 (f : frP μ μ') : frC2 A μ μ' := sorry
theorem frM.c2 (f : frM A μ μ') : frC2 A μ μ' := sorry
theorem frC2.up {i : Nat} {v : Int} (hi : 48 ≤ i) (hi2 : i ≤ 53) : frC2 A μ (ab_up μ 1 i v) := sorry
def RfD (run : ab_R) (A : Nat) (μ : ab_M) (f : Flt) : Prop := RT run (fun μ' => μ' 2 6 = f.1 ∧ μ' 2 7 = f.2 ∧ frC2 A μ μ')
theorem RfD.to {run : ab_R} {f : Flt} (g : RfD run A μ' f) (q : frC2 A μ μ') : RfD run A μ f := sorry
theorem Rf.cd {run : ab_R} {x y : Int} (g : Rf run μ x y) : RfD run A μ (x, y) := sorry
theorem RfC.cd {run : ab_R} {f : Flt} (g : RfC run μ f) : RfD run A μ f := sorry
def cMd (S : SF) (N : NF) (T : Nat → Int) (n A cr ci cb kS b : Nat) (X : Rsv) (h : He) (r j la : Nat) (it : Option Nat) (key : Int × List Int) (ni nu us : Nat) (μ : ab_M) (k : Tok) (μ' : ab_M) : Prop := cT μ' T n k ∧ cMS μ' A kS b S N ∧ (μ' 1 48 = r ∧ μ' 1 49 = j ∧ μ' 1 51 = 1 ∧ μ' 1 53 = μ 1 53) ∧ frC2 A μ μ' ∧ (∀ i, i < 3 → μ' A i = μ A i) ∧
  ((∃ p, it = some p ∧ CM X S μ' A cr ci cb h.1 h.2.1 h.2.2.1 h.2.2.2 ni nu us ∧ μ' 1 50 = itm μ' A (bsF S h.2.1 r + j) p ∧ μ' 1 52 = μ 1 52) ∨
   (it = none ∧ ¬ yLo h r j la it key ∧ ∃ i us' : Nat, i < ci ∧ us ≤ us' ∧ us' ≤ us + key.2.length ∧ CM X S μ' A cr ci cb h.1 h.2.1 (hHo S h r j key).2.2.1 h.2.2.2 (ni + 1) nu us' ∧ μ' 1 50 = i ∧ itm μ' A (bsF S h.2.1 r + j) (yAt S h r j key) = i ∧ μ' (msA A 21) i = -1 ∧ μ' 1 52 = μ 1 52) ∨
   (yLo h r j la it key ∧ ∃ i : Nat, i < ci ∧ CM (upL X i (some (3, 0, itN 0))) S μ' A cr ci cb h.1 h.2.1 h.2.2.1 h.2.2.2 (ni + 1) nu us ∧ X i = none ∧ μ' 1 50 = i ∧ μ' (msA A 21) i = -1 ∧ μ' 1 52 = 1))
end Uc
end
section
section Ud
variable {μ μ' μ'' μ0 : ab_M} {d : Nat} {S : SF} {N : NF} {T : Nat → Int} {n : Nat} {k : Tok} {h : He} {A cr ci cb kS b r j : Nat} {X : Rsv} {ni nu us : Nat}
theorem c_ti132mC (hm : isM A cr ci cb) (ms : cMS μ A kS b S N) (cm : CM X S μ A cr ci cb h.1 h.2.1 h.2.2.1 h.2.2.2 ni nu us) (hg : hG S h) (c : cT μ T n k) (hr : r < h.1) (hj : j < fCt S (h.2.1 r)) (m3 : S 11 (h.2.1 r) j = 3) (e1 : μ 1 48 = r) (e2 : μ 1 49 = j) (e3 : μ 1 51 = 1) (hn : ni < ci) (hu : us + 60 ≤ cb) :
    (∀ f, xPl S N T n (S 14 (h.2.1 r) j) 0 k = .inl f → RfD (ab_run wc (d + 10) 548 132 [(2, 1), (2, A), (2, (fdA b (h.2.1 r) j)), (0, 1), (3, 0), (3, 0), (3, 0), (3, 0), (3, 0), (3, 0), (3, 0)] [(0, (((bsF S h.2.1 r + j : Nat) : Int)))] μ) A μ f) ∧ ∀ p, xPl S N T n (S 14 (h.2.1 r) j) 0 k = .inr p → ∃ μ', (ab_run wc (d + 10) 548 132 [(2, 1), (2, A), (2, (fdA b (h.2.1 r) j)), (0, 1), (3, 0), (3, 0), (3, 0), (3, 0), (3, 0), (3, 0), (3, 0)] [(0, (((bsF S h.2.1 r + j : Nat) : Int)))] μ) = (ab_run wc (d + 10) 548 377 [(2, 1), (2, A), (2, (fdA b (h.2.1 r) j)), (0, 1), (3, 0), (3, 0), (3, 0), (3, 0), (3, 0), (3, 0), (3, 0)] [] μ') ∧ cMd S N T n A cr ci cb kS b X h r j 2 (yKy (S 14 (h.2.1 r) j) p.1 p.2.1 (h.2.2.1 r j)) (p.1, p.2.1) ni nu us μ p.2.2 μ' := sorry
end Ud
end
section
section Ue
variable {μ μ' μ'' μ0 : ab_M} {d : Nat} {S : SF} {N : NF} {T : Nat → Int} {n : Nat} {k : Tok} {h : He} {A cr ci cb kS b r j : Nat} {X : Rsv} {ni nu us : Nat}
theorem CM.hol {i so : Nat} (cm : CM X S μ A cr ci cb h.1 h.2.1 h.2.2.1 h.2.2.2 ni nu us) (hx : X i = some (3, 0, itN 0)) : CM (upL X i (some (so, 0, hoI))) S μ A cr ci cb h.1 h.2.1 h.2.2.1 h.2.2.2 ni nu us := sorry
theorem CM.nw (cm : CM X S μ A cr ci cb h.1 h.2.1 h.2.2.1 h.2.2.2 ni nu us) : X ni = none := sorry
theorem upL_back {α : Type} {f : Nat → α} {i : Nat} {x y : α} (e : f i = y) : upL (upL f i x) i y = f := sorry
theorem c_ti132lC (hm : isM A cr ci cb) (ms : cMS μ A kS b S N) (cm : CM X S μ A cr ci cb h.1 h.2.1 h.2.2.1 h.2.2.2 ni nu us) (c : cT μ T n k) (hr : r < h.1) (hj : j < fCt S (h.2.1 r)) (m2 : S 11 (h.2.1 r) j = 2) (e1 : μ 1 48 = r) (e2 : μ 1 49 = j) (e3 : μ 1 51 = 1) (hn : ni < ci) :
    (∀ f, yWl T n k = .inl f → RfD (ab_run wc (d + 10) 548 132 [(2, 1), (2, A), (2, (fdA b (h.2.1 r) j)), (0, 1), (3, 0), (3, 0), (3, 0), (3, 0), (3, 0), (3, 0), (3, 0)] [(0, (((bsF S h.2.1 r + j : Nat) : Int)))] μ) A μ f) ∧ ∀ i k1, yWl T n k = .inr (i, k1) → ∃ μ', (ab_run wc (d + 10) 548 132 [(2, 1), (2, A), (2, (fdA b (h.2.1 r) j)), (0, 1), (3, 0), (3, 0), (3, 0), (3, 0), (3, 0), (3, 0), (3, 0)] [(0, (((bsF S h.2.1 r + j : Nat) : Int)))] μ) = (ab_run wc (d + 10) 548 377 [(2, 1), (2, A), (2, (fdA b (h.2.1 r) j)), (0, 1), (3, 0), (3, 0), (3, 0), (3, 0), (3, 0), (3, 0), (3, 0)] [] μ') ∧ cMd S N T n A cr ci cb kS b X h r j 1 (yNt i (h.2.2.1 r j)) (i, []) ni nu us μ k1 μ' := sorry
end Ue
end
section
section Uf
variable {μ μ' μ'' μ0 : ab_M} {d : Nat} {S : SF} {N : NF} {T : Nat → Int} {n : Nat} {k : Tok} {h : He} {A cr ci cb kS b r j la : Nat} {X : Rsv} {ni nu us : Nat} {it : Option Nat} {key : Int × List Int}
def cPl (S : SF) (μ : ab_M) (A ci : Nat) (h : He) (r j : Nat) (X : Rsv) : Option Nat → Prop
  | some p => μ 1 50 = itm μ A (bsF S h.2.1 r + j) p
  | none => ∃ i : Nat, i < ci ∧ μ 1 50 = i ∧ X i = some (if S 12 (h.2.1 r) j = 12 then (2, 0, itR h.1) else (3, 0, itN 0))
def cIxC (S : SF) (N : NF) (T : Nat → Int) (n A cr ci cb kS b : Nat) (h : He) (r j la : Nat) (it : Option Nat) (key : Int × List Int) (ni nu us : Nat) (μ : ab_M) (k : Tok) (μ' : ab_M) : Prop := cT μ' T n k ∧ cMS μ' A kS b S N ∧ (μ' 1 48 = r ∧ μ' 1 49 = j ∧ μ' 1 51 = 1 ∧ μ' 1 53 = μ 1 53) ∧ frC2 A μ μ' ∧ (∀ i, i < 3 → μ' A i = μ A i) ∧ (yLo h r j la it key → μ' 1 52 = 1) ∧ (¬ yLo h r j la it key → μ' 1 52 = μ 1 52) ∧
  ∃ (X' : Rsv) (ni' us' : Nat), ni' ≤ ni + 1 ∧ us' ≤ us + key.2.length ∧ CM X' S μ' A cr ci cb (yNi S h r j la it key).1.1 (yNi S h r j la it key).1.2.1 (yNi S h r j la it key).1.2.2.1 (yNi S h r j la it key).1.2.2.2 ni' nu us' ∧ cPl S μ' A ci h r j X' (yNi S h r j la it key).2
theorem yNi_some {p : Nat} (l0 : la ≠ 0) (e : it = some p) : yNi S h r j la it key = (h, some p) := sorry
theorem yNi_lo (e : yLo h r j la it key) : yNi S h r j la it key = (if S 12 (h.2.1 r) j = 12 then hOrp h (S 13 (h.2.1 r) j).toNat else h, none) := sorry
theorem yNi_new (l0 : la ≠ 0) (e : it = none) (e2 : ¬ yLo h r j la it key) : yNi S h r j la it key = (if S 12 (h.2.1 r) j = 12 then hRec S h r j key else hHo S h r j key, some (yAt S h r j key)) := sorry
theorem hHo_at : ∃ t0 : It, ((hHo S h r j key).2.2.1 r j)[yAt S h r j key]? = some t0 ∧ (t0.2.2.2.2 = hole) ∧ (t0.1 = if S 11 (h.2.1 r) j = 3 then (kyE (S 14 (h.2.1 r) j) key).1 else 0) ∧ t0.2.1 = (if S 11 (h.2.1 r) j = 3 then (kyE (S 14 (h.2.1 r) j) key).2 else []) ∧ ∀ t : It, ((hHo S h r j key).2.2.1 r j).set (yAt S h r j key) t = if S 11 (h.2.1 r) j = 3 then kTk (S 14 (h.2.1 r) j) key.1 key.2 (h.2.2.1 r j) ++ t :: kDp (S 14 (h.2.1 r) j) key.1 key.2 (h.2.2.1 r j) else h.2.2.1 r j ++ [t] := sorry
theorem hRec_m (my : 2 ≤ S 11 (h.2.1 r) j) (m3 : S 11 (h.2.1 r) j = 2 ∨ S 11 (h.2.1 r) j = 3) : hRec S h r j key = (h.1 + 1, upT h.2.1 h.1 (S 13 (h.2.1 r) j).toNat, upV (nwV h.2.2.1 h.1) r j (((hHo S h r j key).2.2.1 r j).set (yAt S h r j key) (if S 11 (h.2.1 r) j = 3 then (kyE (S 14 (h.2.1 r) j) key).1 else 0, if S 11 (h.2.1 r) j = 3 then (kyE (S 14 (h.2.1 r) j) key).2 else [], 0, [], h.1)), nwU h.2.2.2 h.1) := sorry
end Uf
end
section
section Ug
variable {μ μ' μ'' μ0 : ab_M} {d : Nat} {S : SF} {N : NF} {T : Nat → Int} {n : Nat} {k : Tok} {h : He} {A cr ci cb kS b r j la : Nat} {X : Rsv} {ni nu us : Nat} {it : Option Nat} {key : Int × List Int}
theorem c_newFill {p i t' n0 : Nat} {ty : Nat → Nat} {V : Nat → Nat → List It} {U : Nat → List Un} {t0 : It} (hm : isM A cr ci cb) (hr : r < n0) (hj : j < fCt S (ty r)) (my : 2 ≤ S 11 (ty r) j) (h12 : S 12 (ty r) j = 12) (hn : n0 < cr) (tO : (t' : Int) < S 0 0 0 ∧ S 2 t' 0 = 1) (ms : cMS μ A kS b S N) (cm : CM X S μ A cr ci cb n0 ty V U ni nu us) (hp : (V r j)[p]? = some t0) (hi : itm μ A (bsF S ty r + j) p = i) :
    i < ci ∧ R0 (ab_run wc (d + 2) 462 0 [(2, 1), (2, A), (0, (t'))] [] μ) (fun v μ' => v = n0 ∧ CM X S (ab_up μ' (msA A 21) i (n0 : Int)) A cr ci cb (n0 + 1) (upT ty n0 t') (upV (nwV V n0) r j ((V r j).set p (t0.1, t0.2.1, 0, [], n0))) (nwU U n0) ni nu us ∧ frM A μ (ab_up μ' (msA A 21) i (n0 : Int)) ∧ itm (ab_up μ' (msA A 21) i (n0 : Int)) A (bsF S ty r + j) p = i ∧ ∀ x, bsF S ty n0 ≤ x → x < bsF S ty n0 + fCt S t' → ab_up μ' (msA A 21) i (n0 : Int) (msA A 10) x = 0) := sorry
theorem cIxC.nd (hm : isM A cr ci cb) (c : cIxC S N T n A cr ci cb kS b h r j la it key ni nu us μ0 k μ) : (∀ f, xWnt T n 93 k = .inl f → RfD (ab_cal (ab_run wc (d + 9) 675 0 [(2, 8), (0, 93)] [] μ) 3 (fun r1 μ1 => some ((4, r1), μ1)) (fun r1 μ1 => some ((3, 0), μ1))) A μ0 f) ∧ ∀ k', xWnt T n 93 k = .inr k' → R3 (ab_cal (ab_run wc (d + 9) 675 0 [(2, 8), (0, 93)] [] μ) 3 (fun r1 μ1 => some ((4, r1), μ1)) (fun r1 μ1 => some ((3, 0), μ1))) (fun μ' => cIxC S N T n A cr ci cb kS b h r j la it key ni nu us μ0 k' μ') := sorry
theorem nw_back {V : Nat → Nat → List It} {L L' : List It} {m : Nat} (hr : r < m) : upV (nwV (upV V r j L) m) r j L' = upV (nwV V m) r j L' := sorry
theorem c_ti377C (hm : isM A cr ci cb) (md : cMd S N T n A cr ci cb kS b X h r j la it key ni nu us μ0 k μ) (u : hU S h) (h1000 : h.1 < hole) (hr : r < h.1) (hj : j < fCt S (h.2.1 r)) (my : S 11 (h.2.1 r) j = 2 ∨ S 11 (h.2.1 r) j = 3) (l0 : la ≠ 0) (hn : h.1 < cr) (hp : ∀ p, it = some p → p < (h.2.2.1 r j).length) :
    (∀ f, xWnt T n 93 k = .inl f → RfD (ab_run wc (d + 10) 548 377 [(2, 1), (2, A), (2, (fdA b (h.2.1 r) j)), (0, 1), (3, 0), (3, 0), (3, 0), (3, 0), (3, 0), (3, 0), (3, 0)] [] μ) A μ0 f) ∧ ∀ k', xWnt T n 93 k = .inr k' → R3 (ab_run wc (d + 10) 548 377 [(2, 1), (2, A), (2, (fdA b (h.2.1 r) j)), (0, 1), (3, 0), (3, 0), (3, 0), (3, 0), (3, 0), (3, 0), (3, 0)] [] μ) (fun μ' => cIxC S N T n A cr ci cb kS b h r j la it key ni nu us μ0 k' μ') := sorry
end Ug
end
section
section Uh
variable {μ μ' μ'' μ0 : ab_M} {d : Nat} {S : SF} {N : NF} {T : Nat → Int} {n : Nat} {k : Tok} {h : He} {A cr ci cb kS b r j la t : Nat} {X : Rsv} {ni nu us : Nat} {it : Option Nat} {key : Int × List Int} {ρ : Option Nat}
def yKo (S : SF) (t j : Nat) (key : Int × List Int) : Prop := S 11 t j = 3 → byt key.2 ∧ lng key.1 ∧ kyE (S 14 t j) key = key ∧ (S 14 t j = 9 → utf key.2 = true)
theorem yKe_ok {op : Nat} {k' : Tok} (hT : ∀ k, k < n → 0 ≤ T k ∧ T k < 256) (ok : scOK S N) (h14 : S 11 t j = 3 → 1 ≤ S 14 t j ∧ S 14 t j ≤ 9) (tk : tkO T n k) (e : yIx S N T n h ρ t j op k = .inr (la, it, k')) : (yKe S N T n t j k).2.length + k.2.1 ≤ k'.2.1 ∧ yKo S t j (yKe S N T n t j k) ∧ (S 11 t j = 3 → la = 2 ∧ it = ρ.bind (fun r => yKy (S 14 t j) (yKe S N T n t j k).1 (yKe S N T n t j k).2 (h.2.2.1 r j))) ∧ (S 11 t j ≠ 3 → la = 1 ∧ it = ρ.bind (fun r => yNt (yKe S N T n t j k).1 (h.2.2.1 r j))) := sorry
theorem yK1_ok {k' : Tok} (hT : ∀ k, k < n → 0 ≤ T k ∧ T k < 256) (ok : scOK S N) (h14 : S 11 t j = 3 → 1 ≤ S 14 t j ∧ S 14 t j ≤ 9) (tk : tkO T n k) (e : yI0 S N T n h ρ t j k = .inr (la, it, k')) : (yK1 S N T n t j k).2.length + k.2.2.1 ≤ k'.2.1 ∧ yKo S t j (yK1 S N T n t j k) ∧ (S 11 t j = 3 → la = 2 ∧ it = ρ.bind (fun r => yKy (S 14 t j) (yK1 S N T n t j k).1 (yK1 S N T n t j k).2 (h.2.2.1 r j))) ∧ (S 11 t j ≠ 3 → la = 1 ∧ it = ρ.bind (fun r => yNt (yK1 S N T n t j k).1 (h.2.2.1 r j))) := sorry
def bs0 (A : Nat) (μ0 μ : ab_M) : Prop := frC2 A μ0 μ ∧ μ 1 53 = μ0 1 53 ∧ μ 1 52 = μ0 1 52 ∧ ∀ i, i < 3 → μ A i = μ0 A i
theorem cIxC.bs (f : bs0 A μ0 μ) (c : cIxC S N T n A cr ci cb kS b h r j la it key ni nu us μ k μ') : cIxC S N T n A cr ci cb kS b h r j la it key ni nu us μ0 k μ' := sorry
theorem c_ti132C (hm : isM A cr ci cb) (ms : cMS μ A kS b S N) (cm : CM X S μ A cr ci cb h.1 h.2.1 h.2.2.1 h.2.2.2 ni nu us) (hg : hG S h) (u : hU S h) (h1000 : h.1 < hole) (c : cT μ T n k) (hr : r < h.1) (hj : j < fCt S (h.2.1 r)) (my : S 11 (h.2.1 r) j = 2 ∨ S 11 (h.2.1 r) j = 3) (e1 : μ 1 48 = r) (e2 : μ 1 49 = j) (e3 : μ 1 51 = 1) (hn : ni < ci) (hu : us + 60 ≤ cb) (hc : h.1 < cr) :
    (∀ f, (if S 11 (h.2.1 r) j = 3 then yMk S N T n h (some r) (h.2.1 r) j k else yLk T n h (some r) j k) = .inl f → RfD (ab_run wc (d + 10) 548 132 [(2, 1), (2, A), (2, (fdA b (h.2.1 r) j)), (0, 1), (3, 0), (3, 0), (3, 0), (3, 0), (3, 0), (3, 0), (3, 0)] [(0, (((bsF S h.2.1 r + j : Nat) : Int)))] μ) A μ f) ∧ ∀ la it k', (if S 11 (h.2.1 r) j = 3 then yMk S N T n h (some r) (h.2.1 r) j k else yLk T n h (some r) j k) = .inr (la, it, k') → R3 (ab_run wc (d + 10) 548 132 [(2, 1), (2, A), (2, (fdA b (h.2.1 r) j)), (0, 1), (3, 0), (3, 0), (3, 0), (3, 0), (3, 0), (3, 0), (3, 0)] [(0, (((bsF S h.2.1 r + j : Nat) : Int)))] μ) (fun μ' => cIxC S N T n A cr ci cb kS b h r j la it (yKe S N T n (h.2.1 r) j k) ni nu us μ k' μ') := sorry
theorem c_ti58C {op : Nat} (hm : isM A cr ci cb) (ms : cMS μ A kS b S N) (cm : CM X S μ A cr ci cb h.1 h.2.1 h.2.2.1 h.2.2.2 ni nu us) (hg : hG S h) (u : hU S h) (h1000 : h.1 < hole) (c : cT μ T n k) (hr : r < h.1) (hj : j < fCt S (h.2.1 r)) (e1 : μ 1 48 = r) (e2 : μ 1 49 = j) (q3 : bs0 A μ0 μ) (hk : k.1 = 4 ∨ (k.1 = 3 ∨ isSg k 45)) (hn : ni < ci) (hu : us + 60 ≤ cb) (hc : h.1 < cr) :
    (∀ f, yIx S N T n h (some r) (h.2.1 r) j op k = .inl f → RfD (ab_run wc (d + 10) 548 58 [(2, 1), (2, A), (2, (fdA b (h.2.1 r) j)), (0, 1), (0, op), (0, (if k.1 = 4 then 1 else 0)), (3, 0), (3, 0), (3, 0), (3, 0), (3, 0)] [] μ) A μ0 f) ∧ ∀ la it k', yIx S N T n h (some r) (h.2.1 r) j op k = .inr (la, it, k') → R3 (ab_run wc (d + 10) 548 58 [(2, 1), (2, A), (2, (fdA b (h.2.1 r) j)), (0, 1), (0, op), (0, (if k.1 = 4 then 1 else 0)), (3, 0), (3, 0), (3, 0), (3, 0), (3, 0)] [] μ) (fun μ' => cIxC S N T n A cr ci cb kS b h r j la it (yKe S N T n (h.2.1 r) j k) ni nu us μ0 k' μ') := sorry
theorem c_takeIndexC (hm : isM A cr ci cb) (ms : cMS μ A kS b S N) (cm : CM X S μ A cr ci cb h.1 h.2.1 h.2.2.1 h.2.2.2 ni nu us) (hg : hG S h) (u : hU S h) (h1000 : h.1 < hole) (c : cT μ T n k) (hr : r < h.1) (hj : j < fCt S (h.2.1 r)) (e1 : μ 1 48 = r) (e2 : μ 1 49 = j) (hn : ni < ci) (hu : us + 60 ≤ cb) (hc : h.1 < cr) :
    (∀ f, yI0 S N T n h (some r) (h.2.1 r) j k = .inl f → RfD (ab_run wc (d + 10) 548 0 [(2, 1), (2, A), (2, (fdA b (h.2.1 r) j)), (0, 1), (3, 0), (3, 0), (3, 0), (3, 0), (3, 0), (3, 0), (3, 0)] [] μ) A μ f) ∧ ∀ la it k', yI0 S N T n h (some r) (h.2.1 r) j k = .inr (la, it, k') → R3 (ab_run wc (d + 10) 548 0 [(2, 1), (2, A), (2, (fdA b (h.2.1 r) j)), (0, 1), (3, 0), (3, 0), (3, 0), (3, 0), (3, 0), (3, 0), (3, 0)] [] μ) (fun μ' => cIxC S N T n A cr ci cb kS b h r j la it (yK1 S N T n (h.2.1 r) j k) ni nu us μ k' μ') := sorry
end Uh
end
section
section Ui
variable {S : SF} {N : NF} {T : Nat → Int} {n : Nat} {k : Tok} {h h' : He} {r j la t dp : Nat} {it : Option Nat} {key : Int × List Int} {ρ : Option Nat} {D : Nat → Nat}
theorem hRec_nk (m3 : S 11 (h.2.1 r) j ≠ 3) : hRec S h r j key = hRec S h r j (0, []) := sorry
theorem hRec_pr (hr : r < h.1) (m3 : S 11 (h.2.1 r) j = 3) (ke : kyE (S 14 (h.2.1 r) j) key = key) (nk : ¬ kyB (S 14 (h.2.1 r) j) key (h.2.2.1 r j) = true) : hRec S h r j key = hPair S (hOrp h (S 13 (h.2.1 r) j).toNat) r j (key.1, key.2, 0, [], h.1) := sorry
theorem hIn.recK (i : hIn S h D) (ok : scOK S N) (hr : r < h.1) (hj : j < fCt S (h.2.1 r)) (h12 : S 12 (h.2.1 r) j = 12) (hd : D r + 1 ≤ 12) (ko : yKo S (h.2.1 r) j key) (nk : S 11 (h.2.1 r) j = 3 → ¬ kyB (S 14 (h.2.1 r) j) key (h.2.2.1 r j) = true) : hIn S (hRec S h r j key) (upL D h.1 (D r + 1)) := sorry
def yIv (S : SF) (h : He) (D : Nat → Nat) (r dp : Nat) : Prop := hIn S h D ∧ hU S h ∧ r < h.1 ∧ D r = dp
theorem yRc_mem {r' : Nat} (e : yRc h (some r) j la it = some r') : ∃ q ∈ h.2.2.1 r j, q.2.2.2.2 = r' := sorry
theorem yEc_some {r' : Nat} (e : yRc h (some r) j la it = some r') : yEc S h r j la it key = (h, r', false) := sorry
theorem yEc_lo (e : yRc h (some r) j la it = none) (l : yLo h r j la it key) : yEc S h r j la it key = (hOrp h (S 13 (h.2.1 r) j).toNat, h.1, true) := sorry
theorem yEc_new (e : yRc h (some r) j la it = none) (l : ¬ yLo h r j la it key) : yEc S h r j la it key = (hRec S h r j key, h.1, false) := sorry
theorem hRec_ty (hr : r < h.1) : (hRec S h r j key).1 = h.1 + 1 ∧ (hRec S h r j key).2.1 = upT h.2.1 h.1 (S 13 (h.2.1 r) j).toNat := sorry
theorem yEc_iv (v : yIv S h D r dp) (ok : scOK S N) (hj : j < fCt S (h.2.1 r)) (k12 : S 12 (h.2.1 r) j = 12) (hd : dp + 1 ≤ 12) (ko : yKo S (h.2.1 r) j key) (nk : it = none → S 11 (h.2.1 r) j = 3 → ¬ kyB (S 14 (h.2.1 r) j) key (h.2.2.1 r j) = true) (nm : yRc h (some r) j la it = none → S 11 (h.2.1 r) j = 3 → it = none) : ∃ D', yIv S (yEc S h r j la it key).1 D' (yEc S h r j la it key).2.1 (dp + 1) ∧ (yEc S h r j la it key).1.2.1 (yEc S h r j la it key).2.1 = (S 13 (h.2.1 r) j).toNat ∧ (yEc S h r j la it key).1.1 ≤ h.1 + 1 ∧ D' 0 = D 0 := sorry
theorem ySt_ok {k3 : Tok} (hT : ∀ k, k < n → 0 ≤ T k ∧ T k < 256) (ok : scOK S N) (tO : (t : Int) < S 0 0 0 ∧ S 2 t 0 = 1) (tk : tkO T n k) (e : ySt S N T n h ρ t k = .inr (j, la, it, k3)) : j < fCt S t ∧ itO S h ρ t j la it ∧ tkO T n k3 ∧ k.2.1 + 1 ≤ k3.2.1 ∧ (la ≠ 0 → k.2.1 + 2 + (yKs S N T n t k).2.length ≤ k3.2.1 ∧ yKo S t j (yKs S N T n t k) ∧ (S 11 t j = 3 → la = 2 ∧ it = ρ.bind (fun r => yKy (S 14 t j) (yKs S N T n t k).1 (yKs S N T n t k).2 (h.2.2.1 r j))) ∧ (S 11 t j ≠ 3 → la = 1 ∧ it = ρ.bind (fun r => yNt (yKs S N T n t k).1 (h.2.2.1 r j)))) := sorry
def yFx (S : SF) (h : He) (r j la : Nat) (it : Option Nat) (key : Int × List Int) : Prop := itO S h (some r) (h.2.1 r) j la it ∧ (la ≠ 0 → yKo S (h.2.1 r) j key ∧ (S 11 (h.2.1 r) j = 3 → la = 2 ∧ it = yKy (S 14 (h.2.1 r) j) key.1 key.2 (h.2.2.1 r j)) ∧ (S 11 (h.2.1 r) j ≠ 3 → la = 1 ∧ it = yNt key.1 (h.2.2.1 r j)))
theorem yFx.nk (f : yFx S h r j la it key) (l0 : la ≠ 0) (e : it = none) (m3 : S 11 (h.2.1 r) j = 3) : ¬ kyB (S 14 (h.2.1 r) j) key (h.2.2.1 r j) = true := sorry
theorem yFx.nm (f : yFx S h r j la it key) (l0 : la ≠ 0) (e : yRc h (some r) j la it = none) : it = none := sorry
theorem yEc_st (v : yIv S h D r dp) (ok : scOK S N) (hj : j < fCt S (h.2.1 r)) (k12 : S 12 (h.2.1 r) j = 12) (ck : la = 0 → S 11 (h.2.1 r) j < 2) (hd : dp + 1 ≤ 12) (f : yFx S h r j la it key) : ∃ D', yIv S (yEc S h r j la it key).1 D' (yEc S h r j la it key).2.1 (dp + 1) ∧ (yEc S h r j la it key).1.2.1 (yEc S h r j la it key).2.1 = (S 13 (h.2.1 r) j).toNat ∧ (yEc S h r j la it key).1.1 ≤ h.1 + 1 ∧ D' 0 = D 0 := sorry
def kpH (h0 h : He) : Prop := h0.1 ≤ h.1 ∧ ∀ a, a < h0.1 → h.2.1 a = h0.2.1 a ∧ h.2.2.1 a = h0.2.2.1 a ∧ h.2.2.2 a = h0.2.2.2 a
theorem kpH.refl : kpH h h := sorry
theorem kpH.trans {h0 : He} (a : kpH h0 h) (b : kpH h h') : kpH h0 h' := sorry
theorem kpH_orp : kpH h (hOrp h t) := sorry
def yLs (S : SF) (ν : Option He) (h : He) (r : Nat) : Prop := ∀ h0, ν = some h0 → kpH h0 h ∧ h0.1 ≤ r ∧ (∃ D0, hIn S h0 D0) ∧ hU S h0
theorem kpH_rec {h0 : He} (a : kpH h0 h) (hr : h0.1 ≤ r) : kpH h0 (hRec S h r j key) := sorry
theorem yLs.ec {ν : Option He} (l : yLs S ν h r) (v : yIv S h D r dp) (hj : j < fCt S (h.2.1 r)) (k12 : S 12 (h.2.1 r) j = 12) : yLs S (yNu ν h (yEc S h r j la it key).2.2) (yEc S h r j la it key).1 (yEc S h r j la it key).2.1 := sorry
theorem yPc_ok (hT : ∀ k, k < n → 0 ≤ T k ∧ T k < 256) (ok : scOK S N) : ∀ (c : Nat) (h : He) (D : Nat → Nat) (r dp : Nat) (ν : Option He) (k : Tok) (h' : He) (r' j la : Nat) (it : Option Nat) (key : Int × List Int) (dp' : Nat) (ν' : Option He) (k' : Tok), yIv S h D r dp → yLs S ν h r → dp ≤ 12 → tkO T n k → yPc S N T n c h r dp ν k = .inr ((h', r', j, la, it, key, dp', ν'), k') → ∃ D', yIv S h' D' r' dp' ∧ yLs S ν' h' r' ∧ dp' ≤ 12 ∧ j < fCt S (h'.2.1 r') ∧ yFx S h' r' j la it key ∧ tkO T n k' ∧ k.2.1 ≤ k'.2.1 ∧ D' 0 = D 0 := sorry
end Ui
end
section
section Uj
variable {μ μ' μ'' μ0 : ab_M} {d : Nat} {S : SF} {N : NF} {T : Nat → Int} {n : Nat} {k : Tok} {h : He} {A cr ci cb kS b q0 i0 u0 r j la t dp : Nat} {X : Rsv} {ni nu us : Nat} {it : Option Nat} {key : Int × List Int} {D : Nat → Nat} {ν : Option He}
noncomputable def yBc (S : SF) (N : NF) (T : Nat → Int) (n c : Nat) (h : He) (r j la : Nat) (it : Option Nat) (key : Int × List Int) (dp : Nat) (ν : Option He) (k3 : Tok) : Flt ⊕ (Pl × Tok) := if isSg k3 91 then (match xAdv T n k3 with
        | .inl f => .inl f
        | .inr k4 => if k4.1 = 4 ∨ (k4.1 = 3 ∨ isSg k4 45) then .inl (5, (k3.2.1 : Int)) else .inl (2, (k4.2.1 : Int)))
      else if isSg k3 46 then (if S 12 (h.2.1 r) j ≠ 12 ∨ (2 ≤ S 11 (h.2.1 r) j ∧ la = 0) then .inl (5, (k3.2.1 : Int)) else if dp = 12 then .inl (3, (k3.2.1 : Int)) else match xAdv T n k3 with
        | .inl f => .inl f
        | .inr k4 => yPc S N T n c (yEc S h r j la it key).1 (yEc S h r j la it key).2.1 (dp + 1) (yNu ν h (yEc S h r j la it key).2.2) k4)
      else .inr ((h, r, j, la, it, key, dp, ν), k3)
theorem yPc_s {c : Nat} : yPc S N T n (c + 1) h r dp ν k = match ySt S N T n h (some r) (h.2.1 r) k with
    | .inl f => .inl f
    | .inr (j, la, it, k3) => yBc S N T n c h r j la it (yKs S N T n (h.2.1 r) k) dp ν k3 := sorry
def cWs (S : SF) (N : NF) (T : Nat → Int) (n A cr ci cb kS b q0 i0 u0 : Nat) (h : He) (dp : Nat) (ν : Option He) (k : Tok) (μ : ab_M) : Prop := cT μ T n k ∧ cMS μ A kS b S N ∧ μ 1 53 = dp ∧ μ 1 52 = (if ν.isSome = true then 1 else 0) ∧ ∃ (X : Rsv) (ni nu us : Nat), CM X S μ A cr ci cb h.1 h.2.1 h.2.2.1 h.2.2.2 ni nu us ∧ 2 * h.1 ≤ k.2.1 + q0 ∧ ni ≤ k.2.1 + i0 ∧ us ≤ k.2.1 + u0
def cWe (S : SF) (N : NF) (T : Nat → Int) (n A cr ci cb kS b q0 i0 u0 : Nat) (h : He) (r j la : Nat) (it : Option Nat) (key : Int × List Int) (dp : Nat) (ν : Option He) (k : Tok) (μ : ab_M) : Prop := cT μ T n k ∧ cMS μ A kS b S N ∧ (μ 1 48 = r ∧ μ 1 49 = j ∧ μ 1 51 = (if la = 0 then 0 else 1) ∧ μ 1 53 = dp) ∧ (ν.isSome = true ∨ yLo h r j la it key → μ 1 52 = 1) ∧ (¬ (ν.isSome = true ∨ yLo h r j la it key) → μ 1 52 = 0) ∧ ∃ (X : Rsv) (ni nu us : Nat), CM X S μ A cr ci cb (yNi S h r j la it key).1.1 (yNi S h r j la it key).1.2.1 (yNi S h r j la it key).1.2.2.1 (yNi S h r j la it key).1.2.2.2 ni nu us ∧ 2 * (h.1 + (if la = 0 then 0 else 1)) ≤ k.2.1 + q0 ∧ ni ≤ k.2.1 + i0 ∧ us ≤ k.2.1 + u0 ∧ (la ≠ 0 → cPl S μ A ci h r j X (yNi S h r j la it key).2)
def cWr (S : SF) (N : NF) (T : Nat → Int) (n A cr ci cb kS b q0 i0 u0 : Nat) (μ0 : ab_M) (run : ab_R) : Flt ⊕ (Pl × Tok) → Prop
  | .inl f => RfD run A μ0 f
  | .inr ((h, r, j, la, it, key, dp, ν), k) => R3 run (fun μ' => cWe S N T n A cr ci cb kS b q0 i0 u0 h r j la it key dp ν k μ' ∧ frC2 A μ0 μ' ∧ ∀ i, i < 3 → μ' A i = μ0 A i)
theorem yNu_is {c : Bool} : (yNu ν h c).isSome = true ↔ ν.isSome = true ∨ c = true := sorry
theorem yNi_0 : yNi S h r j 0 it key = (h, none) := sorry
theorem c_recAtC {x2 : Int} {k1 : Tok} (hm : isM A cr ci cb) (w : cWe S N T n A cr ci cb kS b q0 i0 u0 h r j la it key dp ν k1 μ) (v : yIv S h D r dp) (h1000 : h.1 < hole) (hj : j < fCt S (h.2.1 r)) (k12 : S 12 (h.2.1 r) j = 12) (ck : la = 0 → S 11 (h.2.1 r) j < 2) (fx : yFx S h r j la it key) (hc : h.1 < cr) :
    R0 (ab_run wc (d + 4) 495 0 [(2, 1), (2, A), (2, x2), (0, 1), (3, 0)] [] μ) (fun x μ' => x = (yEc S h r j la it key).2.1 ∧ cT μ' T n k1 ∧ cMS μ' A kS b S N ∧ frM A μ μ' ∧ (∃ (X : Rsv) (ni nu us : Nat), CM X S μ' A cr ci cb (yEc S h r j la it key).1.1 (yEc S h r j la it key).1.2.1 (yEc S h r j la it key).1.2.2.1 (yEc S h r j la it key).1.2.2.2 ni nu us ∧ ni ≤ k1.2.1 + i0 ∧ us ≤ k1.2.1 + u0) ∧ ((yEc S h r j la it key).2.2 = true ↔ yLo h r j la it key)) := sorry
theorem c_wk163C {c : Nat} (hm : isM A cr ci cb) (v : yIv S h D r dp) (d12 : dp ≤ 12) (w : cWe S N T n A cr ci cb kS b q0 i0 u0 h r j la it key dp ν k μ) (hj : j < fCt S (h.2.1 r)) (fx : yFx S h r j la it key) (q3 : frC2 A μ0 μ) (A3 : ∀ i, i < 3 → μ A i = μ0 A i) (hn : n ≤ k.2.1 + c) (bb : 2 * h.1 + 1 ≤ k.2.1 + q0) (hq : n + q0 + 14 ≤ 2 * cr) (h1 : n + q0 < hole)
    (ih : ∀ (μ : ab_M) (k : Tok) (h : He) (D : Nat → Nat) (r dp : Nat) (ν : Option He), n < k.2.1 + c → yIv S h D r dp → dp ≤ 12 → cWs S N T n A cr ci cb kS b q0 i0 u0 h dp ν k μ → frC2 A μ0 μ → (∀ i, i < 3 → μ A i = μ0 A i) → cWr S N T n A cr ci cb kS b q0 i0 u0 μ0 (ab_run wc (d + 12) 565 29 [(2, 1), (2, A), (0, 1), (0, (h.2.1 r)), (0, r), (0, 1), (3, 0), (3, 0), (3, 0)] [] μ) (yPc S N T n c h r dp ν k)) :
    cWr S N T n A cr ci cb kS b q0 i0 u0 μ0 (ab_run wc (d + 12) 565 163 [(2, 1), (2, A), (0, 1), (0, (h.2.1 r)), (0, r), (3, 0), (3, 0), (2, (fdA b (h.2.1 r) j)), (3, 0)] [] μ) (yBc S N T n c h r j la it key dp ν k) := sorry
end Uj
end
section
section Uk
variable {μ μ' μ'' μ0 : ab_M} {d : Nat} {S : SF} {N : NF} {T : Nat → Int} {n : Nat} {k : Tok} {h : He} {A cr ci cb kS b q0 i0 u0 r j la t dp : Nat} {X : Rsv} {ni nu us : Nat} {it : Option Nat} {key : Int × List Int} {D : Nat → Nat} {ν : Option He}
theorem c_walk29C (hm : isM A cr ci cb) (hq : n + q0 + 14 ≤ 2 * cr) (h1 : n + q0 < hole) (hi : n + i0 < ci) (hu : n + u0 + 60 ≤ cb) : ∀ (c : Nat) (μ : ab_M) (k : Tok) (h : He) (D : Nat → Nat) (r dp : Nat) (ν : Option He), n < k.2.1 + c → yIv S h D r dp → dp ≤ 12 → cWs S N T n A cr ci cb kS b q0 i0 u0 h dp ν k μ → frC2 A μ0 μ → (∀ i, i < 3 → μ A i = μ0 A i) → cWr S N T n A cr ci cb kS b q0 i0 u0 μ0 (ab_run wc (d + 12) 565 29 [(2, 1), (2, A), (0, 1), (0, (h.2.1 r)), (0, r), (0, 1), (3, 0), (3, 0), (3, 0)] [] μ) (yPc S N T n c h r dp ν k) := sorry
theorem c_walkPathC (hm : isM A cr ci cb) (hq : n + q0 + 14 ≤ 2 * cr) (h1 : n + q0 < hole) (hi : n + i0 < ci) (hu : n + u0 + 60 ≤ cb) (v : yIv S h D 0 1) (r0 : μ A 2 = 0) (ms : cMS μ A kS b S N) (cm : CM X S μ A cr ci cb h.1 h.2.1 h.2.2.1 h.2.2.2 ni nu us) (ct : cT μ T n k) (b1 : 2 * h.1 ≤ k.2.1 + q0) (b2 : ni ≤ k.2.1 + i0) (b3 : us ≤ k.2.1 + u0) {c : Nat} (hn : n < k.2.1 + c) : cWr S N T n A cr ci cb kS b q0 i0 u0 μ (ab_run wc (d + 12) 565 0 [(2, 1), (2, A), (0, 1), (3, 0), (3, 0), (3, 0), (3, 0), (3, 0), (3, 0)] [] μ) (yPc S N T n c h 0 1 none k) := sorry
end Uk
end
section
section Ul
variable {μ μ' μ'' : ab_M} {d : Nat} {T : Nat → Int} {n : Nat} {k k' k2 : Tok} {S : SF} {N : NF} {A cr ci cb kS b q0 i0 u0 bd : Nat} {h h' h'' : He} {K : List Fr} {X : Rsv} {Vc Vc' Vc'' : Nat → Nat → List It} {r j rc lo lo' it us p : Nat} {key : Int × List Int} {t0 : It}
noncomputable def xVq (S : SF) (N : NF) (T : Nat → Int) (n bd : Nat) (q : Int) (t : Nat) (hs : Int → List Int → He) (hr : He) (rc : Nat) (K : List Fr) (k : Tok) : Flt ⊕ Xs := if q = 12 then
    if isSg k 123 then
      if 12 < bd + recs K + 1 then .inl (3, (k.2.1 : Int)) else match xAdv T n k with
        | .inl f => .inl f
        | .inr k' => .inr (k', hr, (0, rc, 0, []) :: K)
    else .inl (nvF k)
  else match xPl S N T n q t k with
    | .inl f => .inl f
    | .inr p => xDn T n K p.2.2 (hs p.1 p.2.1)
theorem xVal_vq : xVal S N T n bd h K r j key k = xVq S N T n bd (S 12 (h.2.1 r) j) (S 13 (h.2.1 r) j).toNat (hSet S N h r j key) (hRec S h r j key) h.1 K k := sorry
def iSt (L : List It) (p : Nat) (v : Int) (l : List Int) (c : Nat) : List It := match L[p]? with
  | some t0 => L.set p (t0.1, t0.2.1, v, l, c)
  | none => L
theorem iSt_at {L : List It} {v : Int} {l : List Int} {c : Nat} (e : L[p]? = some t0) : iSt L p v l c = L.set p (t0.1, t0.2.1, v, l, c) := sorry
def hPs (h : He) (r j p : Nat) (v : Int) (l : List Int) : He := (h.1, h.2.1, upV h.2.2.1 r j (iSt (h.2.2.1 r j) p v l 0), h.2.2.2)
def hPr (S : SF) (h : He) (r j p : Nat) : He := (h.1 + 1, upT h.2.1 h.1 (S 13 (h.2.1 r) j).toNat, upV (nwV h.2.2.1 h.1) r j (iSt (h.2.2.1 r j) p 0 [] h.1), nwU h.2.2.2 h.1)
theorem srt_set {kk : Int} {L : List It} {t : It} (hs : srt kk L) (e : L[p]? = some t0) (e1 : t.1 = t0.1) (e2 : t.2.1 = t0.2.1) : srt kk (L.set p t) := sorry
theorem set_mem {L : List It} {t : It} {q : It} (hq : q ∈ L.set p t) : q ∈ L ∨ q = t := sorry
theorem hG_set {v : Int} {l : List Int} {c : Nat} (g : hG S h) (hr : r < h.1) (hj : j < fCt S (h.2.1 r)) (e : (h.2.2.1 r j)[p]? = some t0) : (S 11 (h.2.1 r) j < 2 → ((h.2.2.1 r j).set p (t0.1, t0.2.1, v, l, c)).length ≤ 1) ∧ (∀ q ∈ (h.2.2.1 r j).set p (t0.1, t0.2.1, v, l, c), (S 11 (h.2.1 r) j ≠ 3 → q.1 = 0 ∧ q.2.1 = []) ∧ byt q.2.1 ∧ lng q.1) ∧ (S 11 (h.2.1 r) j = 3 → srt (S 14 (h.2.1 r) j) ((h.2.2.1 r j).set p (t0.1, t0.2.1, v, l, c))) := sorry
theorem c_itemP {c' D : Nat} (ih : PB S N T n A cr ci cb kS b q0 i0 u0 bd c') (hD : 4 * c' + 13 ≤ D) (hc : n < k.2.1 + 1 + c') (hm : isM A cr ci cb) (c : CS S N T n A cr ci cb kS b q0 i0 u0 X μ k h h.2.2.1 0) (hit : itm μ A (bsF S h.2.1 r + j) p = it) (hp : (h.2.2.1 r j)[p]? = some t0) (g : hG S h) (hr : r < h.1) (hj : j < fCt S (h.2.1 r)) (my : 2 ≤ S 11 (h.2.1 r) j) (hq : n + q0 + 14 ≤ 2 * cr) (hu : n + u0 ≤ cb) (hb : bd ≤ 12) :
    cRs S N T n A cr ci cb kS b q0 i0 u0 (ab_run wc D 549 0 [(2, 1), (2, A), (0, it), (2, (fdA b (h.2.1 r) j)), (0, (((bd : Nat) : Int)))] [] μ) μ (bsF S h.2.1 h.1) r 0 k.2.1 X h h.2.2.1 (xZf S N T n bd (xVq S N T n bd (S 12 (h.2.1 r) j) (S 13 (h.2.1 r) j).toNat (hPs h r j p) (hPr S h r j p) h.1 [] k)) (fun k2 h' => xZd S N T n bd (xVq S N T n bd (S 12 (h.2.1 r) j) (S 13 (h.2.1 r) j).toNat (hPs h r j p) (hPr S h r j p) h.1 [] k) k2 h' []) := sorry
theorem c_itemX {c' D : Nat} {x : Nat × Nat × It} (ih : PB S N T n A cr ci cb kS b q0 i0 u0 bd c') (hD : 4 * c' + 13 ≤ D) (hc : n < k.2.1 + 1 + c') (hm : isM A cr ci cb) (c : CS S N T n A cr ci cb kS b q0 i0 u0 X μ k h h.2.2.1 0) (hx : X it = some x) (g : hG S h) (hr : r < h.1) (hj : j < fCt S (h.2.1 r)) (hq : n + q0 + 14 ≤ 2 * cr) (hu : n + u0 ≤ cb) (hb : bd ≤ 12) :
    ∃ X', cRs S N T n A cr ci cb kS b q0 i0 u0 (ab_run wc D 549 0 [(2, 1), (2, A), (0, it), (2, (fdA b (h.2.1 r) j)), (0, (((bd : Nat) : Int)))] [] μ) μ (bsF S h.2.1 h.1) h.1 0 k.2.1 X' h h.2.2.1 (xZf S N T n bd (xVq S N T n bd (S 12 (h.2.1 r) j) (S 13 (h.2.1 r) j).toNat (fun _ _ => h) (hOrp h (S 13 (h.2.1 r) j).toNat) h.1 [] k)) (fun k2 h' => xZd S N T n bd (xVq S N T n bd (S 12 (h.2.1 r) j) (S 13 (h.2.1 r) j).toNat (fun _ _ => h) (hOrp h (S 13 (h.2.1 r) j).toNat) h.1 [] k) k2 h' []) := sorry
end Ul
end
section
section Um
variable {μ μ' μ'' : ab_M} {d : Nat} {T : Nat → Int} {n : Nat} {k k' k2 : Tok} {S : SF} {N : NF} {A cr ci cb kS b q0 i0 u0 bd dp : Nat} {h h' h'' : He} {K : List Fr} {X : Rsv} {r j la p : Nat} {it : Option Nat} {key : Int × List Int} {t0 : It} {D : Nat → Nat} {ν : Option He} {W : Flt ⊕ Xs} {f : Flt}
noncomputable def xEn (S : SF) (N : NF) (T : Nat → Int) (n bd : Nat) (W : Flt ⊕ Xs) : Flt ⊕ Xs := match W with
  | .inl f => .inl f
  | .inr X => xIt S N T n bd (n + 1) X
theorem xEn_f (hT : ∀ k, k < n → 0 ≤ T k ∧ T k < 256) (tk : ∀ X, W = .inr X → tkO T n X.1) (z : xZf S N T n bd W f) : xEn S N T n bd W = .inl f := sorry
theorem xEn_d (hT : ∀ k, k < n → 0 ≤ T k ∧ T k < 256) (tk : ∀ X, W = .inr X → tkO T n X.1) (z : xZd S N T n bd W k2 h' []) : xEn S N T n bd W = .inr (k2, h', []) := sorry
theorem xDn_nil : xDn T n [] k2 h' = .inr (k2, h', []) := sorry
theorem xVq_tk {q : Int} {t rc : Nat} {hs : Int → List Int → He} {hr : He} {X : Xs} (hT : ∀ k, k < n → 0 ≤ T k ∧ T k < 256) (tk : tkO T n k) (e : xVq S N T n bd q t hs hr rc [] k = .inr X) : tkO T n X.1 := sorry
theorem xOpn_tk {X : Xs} (hT : ∀ k, k < n → 0 ≤ T k ∧ T k < 256) (tk : tkO T n k) (e : xOpn S N T n bd h K r j k = .inr X) : tkO T n X.1 := sorry
def hEm (S : SF) (h : He) (r j : Nat) : He := (h.1, h.2.1, if 2 ≤ S 11 (h.2.1 r) j then upV h.2.2.1 r j [] else h.2.2.1, h.2.2.2)
noncomputable def yVc (S : SF) (N : NF) (T : Nat → Int) (n : Nat) (h : He) (r j la : Nat) (it : Option Nat) (key : Int × List Int) (dp : Nat) (k : Tok) : Flt ⊕ Xs := if la = 0 then xOpn S N T n dp (hEm S h r j) [] r j k else match it with
  | some p => xVq S N T n dp (S 12 (h.2.1 r) j) (S 13 (h.2.1 r) j).toNat (hPs h r j p) (hPr S h r j p) h.1 [] k
  | none => @ite _ (yLo h r j la none key) (Classical.propDecidable _) (xVq S N T n dp (S 12 (h.2.1 r) j) (S 13 (h.2.1 r) j).toNat (fun _ _ => h) (hOrp (hOrp h (S 13 (h.2.1 r) j).toNat) (S 13 (h.2.1 r) j).toNat) (h.1 + 1) [] k) (xVal S N T n dp (if S 12 (h.2.1 r) j = 12 then hOrp h (S 13 (h.2.1 r) j).toNat else h) [] r j key k)
theorem yVc_0 : yVc S N T n h r j 0 it key dp k = xOpn S N T n dp (hEm S h r j) [] r j k := sorry
theorem yVc_s (l0 : la ≠ 0) : yVc S N T n h r j la (some p) key dp k = xVq S N T n dp (S 12 (h.2.1 r) j) (S 13 (h.2.1 r) j).toNat (hPs h r j p) (hPr S h r j p) h.1 [] k := sorry
theorem yVc_l (lo : yLo h r j la none key) : yVc S N T n h r j la none key dp k = xVq S N T n dp (S 12 (h.2.1 r) j) (S 13 (h.2.1 r) j).toNat (fun _ _ => h) (hOrp (hOrp h (S 13 (h.2.1 r) j).toNat) (S 13 (h.2.1 r) j).toNat) (h.1 + 1) [] k := sorry
theorem yVc_n (l0 : la ≠ 0) (lo : ¬ yLo h r j la none key) : yVc S N T n h r j la none key dp k = xVal S N T n dp (if S 12 (h.2.1 r) j = 12 then hOrp h (S 13 (h.2.1 r) j).toNat else h) [] r j key k := sorry
theorem yVc_tk {X : Xs} (hT : ∀ k, k < n → 0 ≤ T k ∧ T k < 256) (tk : tkO T n k) (e : yVc S N T n h r j la it key dp k = .inr X) : tkO T n X.1 := sorry
theorem hPs_new {v : Int} {l : List Int} (m23 : S 11 (h.2.1 r) j = 2 ∨ S 11 (h.2.1 r) j = 3) : hPs (hHo S h r j key) r j (yAt S h r j key) v l = hSet S N h r j key v l := sorry
theorem hPr_new (hr : r < h.1) (m23 : S 11 (h.2.1 r) j = 2 ∨ S 11 (h.2.1 r) j = 3) : hPr S (hRec S h r j key) r j (yAt S h r j key) = hRec S (hOrp h (S 13 (h.2.1 r) j).toNat) r j key := sorry
theorem hG.hE (g : hG S h) (hr : r < h.1) (hj : j < fCt S (h.2.1 r)) : hG S (hEm S h r j) := sorry
theorem hG.or {t : Nat} (g : hG S h) (hr : r < h.1) (hj : j < fCt S (h.2.1 r)) : hG S (hOrp h t) := sorry
theorem hG.ho (g : hG S h) (hr : r < h.1) (hj : j < fCt S (h.2.1 r)) (m23 : S 11 (h.2.1 r) j = 2 ∨ S 11 (h.2.1 r) j = 3) (ko : yKo S (h.2.1 r) j key) (nk : S 11 (h.2.1 r) j = 3 → ¬ kyB (S 14 (h.2.1 r) j) key (h.2.2.1 r j) = true) {t : It} (e1 : S 11 (h.2.1 r) j = 3 → t.1 = key.1 ∧ t.2.1 = key.2) (e2 : S 11 (h.2.1 r) j ≠ 3 → t.1 = 0 ∧ t.2.1 = []) : (∀ q ∈ (if S 11 (h.2.1 r) j = 3 then kTk (S 14 (h.2.1 r) j) key.1 key.2 (h.2.2.1 r j) ++ t :: kDp (S 14 (h.2.1 r) j) key.1 key.2 (h.2.2.1 r j) else h.2.2.1 r j ++ [t]), (S 11 (h.2.1 r) j ≠ 3 → q.1 = 0 ∧ q.2.1 = []) ∧ byt q.2.1 ∧ lng q.1) ∧ (S 11 (h.2.1 r) j = 3 → srt (S 14 (h.2.1 r) j) (if S 11 (h.2.1 r) j = 3 then kTk (S 14 (h.2.1 r) j) key.1 key.2 (h.2.2.1 r j) ++ t :: kDp (S 14 (h.2.1 r) j) key.1 key.2 (h.2.2.1 r j) else h.2.2.1 r j ++ [t])) := sorry
theorem hG.ni (g : hG S h) (hr : r < h.1) (hj : j < fCt S (h.2.1 r)) (m23 : la ≠ 0 → S 11 (h.2.1 r) j = 2 ∨ S 11 (h.2.1 r) j = 3) (fx : yFx S h r j la it key) : hG S (yNi S h r j la it key).1 := sorry
end Um
end
section
section Un
variable {μ μ' μ'' : ab_M} {d : Nat} {T : Nat → Int} {n : Nat} {k k' k2 : Tok} {S : SF} {N : NF} {A cr ci cb kS b q0 i0 u0 bd dp ni nu us : Nat} {h h' h'' h0 : He} {K : List Fr} {X : Rsv} {r j la p : Nat} {it : Option Nat} {key : Int × List Int} {t0 : It} {ν : Option He} {W : Flt ⊕ Xs} {f : Flt}
theorem kpt_kpH {m : Nat} {Vc Vc' : Nat → Nat → List It} (q : kpt m h h' Vc Vc') (k0 : kpH h0 h) (l : h0.1 ≤ m) : kpH h0 h' := sorry
theorem kpH_up {V : Nat → Nat → List It} (k0 : kpH h0 h) (hV : ∀ a, a < h0.1 → V a = h.2.2.1 a) : kpH h0 (h.1, h.2.1, V, h.2.2.2) := sorry
theorem agr_all {m : Nat} {Vc Vc' : Nat → Nat → List It} (q : kpt m h h' Vc Vc') (e : ∀ a, a < m → Vc a = h.2.2.1 a) (g : agr m h' Vc') : Vc' = h'.2.2.1 := sorry
theorem frQ.z {lo : Nat} (f : frQ A lo μ μ') : frQ A 0 μ μ' := sorry
def cVr (S : SF) (N : NF) (T : Nat → Int) (n A cr ci cb kS b q0 i0 u0 : Nat) (run : ab_R) (μ : ab_M) (R : Flt ⊕ Xs) (P : He → Prop) : Prop :=
  (∃ f, R = .inl f ∧ RfQ run A μ f) ∨ R3 run (fun μ' => ∃ X' k2 h', R = .inr (k2, h', []) ∧ CS S N T n A cr ci cb kS b q0 i0 u0 X' μ' k2 h' h'.2.2.1 0 ∧ hG S h' ∧ P h' ∧ frQ A 0 μ μ')
theorem cVr.of {run : ab_R} {lo m pp : Nat} {Vc : Nat → Nat → List It} {P : He → Prop} (hT : ∀ k, k < n → 0 ≤ T k ∧ T k < 256) (tk : ∀ X, W = .inr X → tkO T n X.1) (e : ∀ a, a < m → Vc a = h.2.2.1 a) (hP : ∀ h' Vc', kpt m h h' Vc Vc' → P h') (x : cRs S N T n A cr ci cb kS b q0 i0 u0 run μ lo m 0 pp X h Vc (xZf S N T n bd W) (fun k2 h' => xZd S N T n bd W k2 h' [])) : cVr S N T n A cr ci cb kS b q0 i0 u0 run μ (xEn S N T n bd W) P := sorry
theorem c_putV0 {D : Nat} (hD : 4 * (n + 1) + 15 ≤ D) (hm : isM A cr ci cb) (hq : n + q0 + 14 ≤ 2 * cr) (hi : n + i0 < ci) (hi0 : 1 ≤ i0) (hu : n + u0 ≤ cb) (d12 : dp ≤ 12) (c : cT μ T n k) (ms : cMS μ A kS b S N) (cm : CM X S μ A cr ci cb h.1 h.2.1 h.2.2.1 h.2.2.2 ni nu us) (b1 : 2 * h.1 ≤ k.2.1 + q0) (b2 : ni ≤ k.2.1 + i0) (b3 : us ≤ k.2.1 + u0) (g : hG S h) (hr : r < h.1) (hj : j < fCt S (h.2.1 r)) :
    cVr S N T n A cr ci cb kS b q0 i0 u0 (ab_run wc D 547 0 [(2, 1), (2, A), (0, r), (0, j), (0, (((dp : Nat) : Int))), (3, 0), (3, 0), (3, 0)] [] μ) μ (xEn S N T n dp (yVc S N T n h r j 0 it key dp k)) (fun h' => ∀ h0, kpH h0 h → h0.1 ≤ r → kpH h0 h') := sorry
theorem xVq_12 {q : Int} {t rc : Nat} {hs hs' : Int → List Int → He} {hr : He} (e : q = 12) : xVq S N T n bd q t hs hr rc K k = xVq S N T n bd q t hs' hr rc K k := sorry
theorem xVq_n {q : Int} {t rc rc' : Nat} {hs : Int → List Int → He} {hr hr' : He} (e : q ≠ 12) : xVq S N T n bd q t hs hr rc K k = xVq S N T n bd q t hs hr' rc' K k := sorry
theorem c_putV1 {D : Nat} (hD : 4 * (n + 1) + 15 ≤ D) (hm : isM A cr ci cb) (hq : n + q0 + 14 ≤ 2 * cr) (hi : n + i0 < ci) (hi0 : 1 ≤ i0) (hu : n + u0 ≤ cb) (d12 : dp ≤ 12) (c : cT μ T n k) (ms : cMS μ A kS b S N) (cm : CM X S μ A cr ci cb (yNi S h r j la it key).1.1 (yNi S h r j la it key).1.2.1 (yNi S h r j la it key).1.2.2.1 (yNi S h r j la it key).1.2.2.2 ni nu us) (pl : cPl S μ A ci h r j X (yNi S h r j la it key).2) (b1 : 2 * (h.1 + 1) ≤ k.2.1 + q0) (b2 : ni ≤ k.2.1 + i0) (b3 : us ≤ k.2.1 + u0) (g : hG S h) (hr : r < h.1) (hj : j < fCt S (h.2.1 r)) (l0 : la ≠ 0) (m23 : S 11 (h.2.1 r) j = 2 ∨ S 11 (h.2.1 r) j = 3) (fx : yFx S h r j la it key) :
    cVr S N T n A cr ci cb kS b q0 i0 u0 (ab_run wc D 549 0 [(2, 1), (2, A), (0, (μ 1 50)), (2, (fdA b (h.2.1 r) j)), (0, (((dp : Nat) : Int)))] [] μ) μ (xEn S N T n dp (yVc S N T n h r j la it key dp k)) (fun h' => (yLo h r j la it key → kpH h h') ∧ ∀ h0, kpH h0 h → h0.1 ≤ r → kpH h0 h') := sorry
end Un
end
section
section Uo
variable {μ μ' μ'' : ab_M} {d : Nat} {T : Nat → Int} {n : Nat} {k k' k2 : Tok} {S : SF} {N : NF} {A cr ci cb kS b q0 i0 u0 bd dp ni nu us : Nat} {h h' h'' h0 : He} {X : Rsv} {r j la p : Nat} {it : Option Nat} {key : Int × List Int} {ν : Option He} {f : Flt} {Dd : Nat → Nat}
noncomputable def yNf (ν : Option He) (h : He) (r j la : Nat) (it : Option Nat) (key : Int × List Int) : Option He := yNu ν h (@decide (yLo h r j la it key) (Classical.propDecidable _))
noncomputable def yPu (S : SF) (N : NF) (T : Nat → Int) (n : Nat) (h : He) : Flt ⊕ (Option He × He) := match lx T n 0 with
  | none => .inl (1, (lxB T n false 0 : Int))
  | some k0 => match yPc S N T n (n + 1) h 0 1 none k0 with
    | .inl f => .inl f
    | .inr (P, k1) => match xWnt T n 61 k1 with
      | .inl f => .inl f
      | .inr k2 => match xEn S N T n P.2.2.2.2.2.2.1 (yVc S N T n P.1 P.2.1 P.2.2.1 P.2.2.2.1 P.2.2.2.2.1 P.2.2.2.2.2.1 P.2.2.2.2.2.2.1 k2) with
        | .inl f => .inl f
        | .inr X => if X.1.1 = 0 then .inr (yNf P.2.2.2.2.2.2.2 P.1 P.2.1 P.2.2.1 P.2.2.2.1 P.2.2.2.2.1 P.2.2.2.2.2.1, X.2.1) else .inl (2, (X.1.2.1 : Int))
theorem yNf_is : (yNf ν h r j la it key).isSome = true ↔ ν.isSome = true ∨ yLo h r j la it key := sorry
theorem frQ.c2 {lo : Nat} (f : frQ A lo μ μ') : frC2 A μ μ' := sorry
theorem RfQ.cd {run : ab_R} (g : RfQ run A μ f) : RfD run A μ f := sorry
noncomputable def pTl (D : Nat) (μ5 : ab_M) : ab_R := ab_cal (ab_run wc D 455 0 [(2, 1)] [] μ5) 3 (fun r6 μ6 => some ((4, r6), μ6)) (fun _ μ6 => (ab_cal (ab_run wc D 415 0 [(2, 1), (2, 1255)] [] μ6) 0 (fun r7 μ7 => some ((4, r7), μ7)) (fun r7 μ7 => (if r7 = 0 then some ((3, 0), μ7) else (ab_cal (ab_run wc D 497 0 [(2, 1), (0, 3), (0, 0)] [] μ7) 2 (fun r8 μ8 => some ((4, r8), μ8)) (fun r8 μ8 => (cond (wc_ob (r8).toNat 2) (some ((4, r8), μ8)) none)))))))
theorem pTl_eq {D : Nat} (c : cT μ T n k) : pTl (D + 5) μ = if k.1 = 0 then (ab_cal (ab_run wc (D + 5) 415 0 [(2, 1), (2, 1255)] [] μ) 0 (fun r7 μ7 => some ((4, r7), μ7)) (fun r7 μ7 => (if r7 = 0 then some ((3, 0), μ7) else (ab_cal (ab_run wc (D + 5) 497 0 [(2, 1), (0, 3), (0, 0)] [] μ7) 2 (fun r8 μ8 => some ((4, r8), μ8)) (fun r8 μ8 => (cond (wc_ob (r8).toNat 2) (some ((4, r8), μ8)) none)))))) else some ((4, 2), ab_up (ab_up μ 2 6 2) 2 7 k.2.1) := sorry
theorem c_putText {D : Nat} (hD : 4 * (n + 1) + 20 ≤ D) (n4 : n ≤ 4000) (ht : μ 3 1 = n) (hx : ∀ k, k < n → 0 ≤ T k ∧ T k < 256 ∧ μ 4 k = sg (T k)) (v : yIv S h Dd 0 1) (r0 : μ 1255 2 = 0) (ms : cMS μ 1255 kS b S N) (cm : CM X S μ 1255 2600 9000 12000 h.1 h.2.1 h.2.2.1 h.2.2.2 ni nu us) (b1 : h.1 ≤ 401) (b2 : ni ≤ 401) (b3 : us ≤ 2000) :
    (∃ f, yPu S N T n h = .inl f ∧ RfD (ab_run wc ((D + 1)) 484 0 [(2, 1), (2, 1255), (3, 0), (3, 0)] [] μ) 1255 μ f) ∨ ∃ ν h' μ' X' ni' nu' us', yPu S N T n h = .inr (ν, h') ∧ (ab_run wc ((D + 1)) 484 0 [(2, 1), (2, 1255), (3, 0), (3, 0)] [] μ) = ab_cal (ab_run wc D 415 0 [(2, 1), (2, 1255)] [] μ') 0 (fun r7 μ7 => some ((4, r7), μ7)) (fun r7 μ7 => (if r7 = 0 then some ((3, 0), μ7) else (ab_cal (ab_run wc D 497 0 [(2, 1), (0, 3), (0, 0)] [] μ7) 2 (fun r8 μ8 => some ((4, r8), μ8)) (fun r8 μ8 => (cond (wc_ob (r8).toNat 2) (some ((4, r8), μ8)) none))))) ∧ cMS μ' 1255 kS b S N ∧ CM X' S μ' 1255 2600 9000 12000 h'.1 h'.2.1 h'.2.2.1 h'.2.2.2 ni' nu' us' ∧ hG S h' ∧ (∀ i, i < 3 → μ' 1255 i = μ 1255 i) ∧ μ' 1 52 = (if ν.isSome = true then 1 else 0) ∧ (∀ h0, ν = some h0 → kpH h0 h' ∧ (∃ D0, hIn S h0 D0) ∧ hU S h0) ∧ frC2 1255 μ μ' := sorry
end Uo
end
section
section Up
variable {S : SF} {N : NF} {T : Nat → Int} {n bd dp c : Nat} {k : Tok} {h h' : He} {r j la t p : Nat} {it : Option Nat} {key : Int × List Int} {D : Nat → Nat} {X Z : Xs} {K : List Fr} {t0 : It} {v : Int} {l : List Int}
def hUp (S : SF) (h : He) : Prop := ∀ r, r < h.1 → ∀ j, j < fCt S (h.2.1 r) → S 12 (h.2.1 r) j = 12 → ∀ q ∈ h.2.2.1 r j, r < q.2.2.2.2 ∧ q.2.2.2.2 < h.1
theorem xHp_up (u : hUp S h) (e : xHp S N h h') : hUp S h' := sorry
theorem xIt_iv (hT : ∀ k, k < n → 0 ≤ T k ∧ T k < 256) (ok : scOK S N) (xo : xOK S X) (tk : tkO T n X.1) (i : hIn S X.2.1 D) (u : hU S X.2.1) (dk : dK bd D X.2.2) (d0 : D 0 = 1) (e : xIt S N T n bd c X = .inr Z) : hTy S Z.2.1 ∧ hCn S Z.2.1 ∧ hDn S Z.2.1 (fun _ => true) ∧ hNm S Z.2.1 ∧ (∃ D', dI S Z.2.1 D' ∧ D' 0 = 1) ∧ hU S Z.2.1 ∧ oA S Z.2.1 ∧ 0 < Z.2.1.1 := sorry
theorem hIn.put (i : hIn S h D) (ok : scOK S N) (hr : r < h.1) (hj : j < fCt S (h.2.1 r)) (my : 2 ≤ S 11 (h.2.1 r) j) (hp : (h.2.2.1 r j)[p]? = some t0) {cc : Nat} (io : itOK S h D r j (t0.1, t0.2.1, v, l, cc)) : hIn S (h.1, h.2.1, upV h.2.2.1 r j ((h.2.2.1 r j).set p (t0.1, t0.2.1, v, l, cc)), h.2.2.2) D := sorry
theorem hU.put (u : hU S h) (hr : r < h.1) {cc : Nat} (io : okI S h r j (t0.1, t0.2.1, v, l, cc)) : hU S (h.1, h.2.1, upV h.2.2.1 r j ((h.2.2.1 r j).set p (t0.1, t0.2.1, v, l, cc)), h.2.2.2) := sorry
theorem xPl_ok {q : Int} {pp : Int × List Int × Tok} (hT : ∀ k, k < n → 0 ≤ T k ∧ T k < 256) (ok : scOK S N) (tk : tkO T n k) (ht : q = 11 → (t : Int) < S 0 0 0 ∧ S 2 t 0 = 0) (e : xPl S N T n q t k = .inr pp) : byt pp.2.1 ∧ lng pp.1 ∧ (q ≠ 9 → q ≠ 10 → pp.2.1 = []) ∧ (q = 9 ∨ q = 10 → pp.1 = 0) ∧ (q = 9 → utf pp.2.1 = true) := sorry
theorem itOK.sc (i : hIn S h D) (ok : scOK S N) (hr : r < h.1) (hj : j < fCt S (h.2.1 r)) (h12 : S 12 (h.2.1 r) j ≠ 12) {a : Int} {b : List Int} (k1 : S 11 (h.2.1 r) j ≠ 3 → a = 0 ∧ b = []) (k2 : byt b ∧ lng a) (k3 : (S 14 (h.2.1 r) j ≠ 9 → b = []) ∧ (S 14 (h.2.1 r) j = 9 → a = 0)) (o1 : byt l) (o2 : lng v) (o3 : S 12 (h.2.1 r) j ≠ 9 → S 12 (h.2.1 r) j ≠ 10 → l = []) (o4 : S 12 (h.2.1 r) j = 9 ∨ S 12 (h.2.1 r) j = 10 → v = 0) : itOK S h D r j (a, b, v, l, 0) := sorry
theorem hSet_pr (m3 : S 11 (h.2.1 r) j = 3) (ke : kyE (S 14 (h.2.1 r) j) key = key) (nk : ¬ kyB (S 14 (h.2.1 r) j) key (h.2.2.1 r j) = true) : hSet S N h r j key v l = hPair S h r j (key.1, key.2, v, l, 0) := sorry
theorem hSet_nk (m3 : S 11 (h.2.1 r) j ≠ 3) : hSet S N h r j key v l = hSet S N h r j (0, []) v l := sorry
theorem hIn.setK (i : hIn S h D) (ok : scOK S N) (hr : r < h.1) (hj : j < fCt S (h.2.1 r)) (h12 : S 12 (h.2.1 r) j ≠ 12) (ko : yKo S (h.2.1 r) j key) (nk : S 11 (h.2.1 r) j = 3 → ¬ kyB (S 14 (h.2.1 r) j) key (h.2.2.1 r j) = true) (o1 : byt l) (o2 : lng v) (o3 : S 12 (h.2.1 r) j ≠ 9 → S 12 (h.2.1 r) j ≠ 10 → l = []) (o4 : S 12 (h.2.1 r) j = 9 ∨ S 12 (h.2.1 r) j = 10 → v = 0) : hIn S (hSet S N h r j key v l) D := sorry
theorem xOK_1 {rc : Nat} (lt : rc < h.1) (e : ∀ c, c < fCt S (h.2.1 rc) → h.2.2.1 rc c = []) : xOK S (k, h, [(0, rc, 0, [])]) := sorry
theorem xOK_0 : xOK S (k, h, []) := sorry
def pSt (S : SF) (dp : Nat) (X : Xs) : Prop := xOK S X ∧ ∃ D, hIn S X.2.1 D ∧ hU S X.2.1 ∧ dK dp D X.2.2 ∧ D 0 = 1
theorem pSt_q {q : Int} {rc : Nat} {hs : Int → List Int → He} {hr : He} (hT : ∀ k, k < n → 0 ≤ T k ∧ T k < 256) (ok : scOK S N) (tk : tkO T n k) (ht : q = 11 → (t : Int) < S 0 0 0 ∧ S 2 t 0 = 0) (a : ∀ v l, q ≠ 12 → byt l → lng v → (q ≠ 9 → q ≠ 10 → l = []) → (q = 9 ∨ q = 10 → v = 0) → (q = 9 → utf l = true) → ∃ D, hIn S (hs v l) D ∧ hU S (hs v l) ∧ D 0 = 1) (b : q = 12 → dp + 1 ≤ 12 → ∃ D, hIn S hr D ∧ hU S hr ∧ D rc = dp + 1 ∧ D 0 = 1 ∧ rc < hr.1 ∧ ∀ c, hr.2.2.1 rc c = []) (e : xVq S N T n dp q t hs hr rc [] k = .inr X) : pSt S dp X := sorry
theorem yIv.d0 (w : yIv S h D r dp) (d0 : D 0 = 1) {x : Nat} : upL D h.1 x 0 = 1 := sorry
theorem pSt_val {key : Int × List Int} (hT : ∀ k, k < n → 0 ≤ T k ∧ T k < 256) (ok : scOK S N) (tk : tkO T n k) (i : hIn S h D) (u : hU S h) (hD : D r = dp) (d0 : D 0 = 1) (hr : r < h.1) (hj : j < fCt S (h.2.1 r)) (ko : yKo S (h.2.1 r) j key) (nk : S 11 (h.2.1 r) j = 3 → ¬ kyB (S 14 (h.2.1 r) j) key (h.2.2.1 r j) = true) (e : xVal S N T n dp h [] r j key k = .inr X) : pSt S dp X := sorry
theorem hEm_ls : lsH h (hEm S h r j) := sorry
theorem yVc_iv (hT : ∀ k, k < n → 0 ≤ T k ∧ T k < 256) (ok : scOK S N) (tk : tkO T n k) (w : yIv S h D r dp) (d0 : D 0 = 1) (hj : j < fCt S (h.2.1 r)) (fx : yFx S h r j la it key) (e : yVc S N T n h r j la it key dp k = .inr X) : pSt S dp X := sorry
def pEn (S : SF) (h : He) : Prop := hTy S h ∧ hCn S h ∧ hDn S h (fun _ => true) ∧ hNm S h ∧ (∃ D', dI S h D' ∧ D' 0 = 1) ∧ hU S h ∧ oA S h ∧ 0 < h.1
theorem xEn_iv {W : Flt ⊕ Xs} (hT : ∀ k, k < n → 0 ≤ T k ∧ T k < 256) (ok : scOK S N) (tk : ∀ X, W = .inr X → tkO T n X.1) (st : ∀ X, W = .inr X → pSt S bd X) (e : xEn S N T n bd W = .inr Z) : pEn S Z.2.1 := sorry
end Up
end
section
section Uq
variable {μ μ' μ'' : ab_M} {S : SF} {N : NF} {h h0 h' : He} {k s bs : Nat} {tp : List Int} {D0 : Nat → Nat}
theorem itsE_refl {R : Nat → Nat → Prop} {rc : Bool} : ∀ L : List It, (rc = true → ∀ q ∈ L, R q.2.2.2.2 q.2.2.2.2) → itsE R rc L L := sorry
theorem kpH_eqT (i : hIn S h0 D0) (kp : kpH h0 h') : ∀ f r, r < h0.1 → h0.1 ≤ r + f → eqT S h0 h' f r r := sorry
theorem kpH_eq (i : hIn S h0 D0) (kp : kpH h0 h') : hEq S h0 h' := sorry
abbrev lgH (S : SF) (h : He) : Prop := 400 < vlS S h ∨ 2000 < btS S h
def frPu (k : Nat) (μ μ' : ab_M) : Prop := ∀ a i, ¬ inM 1255 a → ¬ inM (6314 + 27 * k) a → a ≠ 2 → (a ≠ 3 ∨ i ≠ 1) → a ≠ 8 → a ≠ 9 → a ≠ 1309 → (a ≠ 1 ∨ i ≠ 3 ∧ i ≠ 18 ∧ i ≠ 20 ∧ (i < 48 ∨ 53 < i) ∧ (i < 14 ∨ 17 < i)) → μ' a i = μ a i
def cPu (S : SF) (N : NF) (μ : ab_M) (k s bs : Nat) (y : Flt ⊕ (Option He × He)) (v : Int) (μ' : ab_M) : Prop := match y with
  | .inl f => v = w32 (-10 - f.1) ∧ μ' 1 3 = f.2 ∧ ∀ a, inM (6314 + 27 * k) a → ∀ i, μ' a i = μ a i
  | .inr (ν, h') => if lgH S (ν.getD h') then v = w32 (-10 - 3) ∧ μ' 1 3 = 0 ∧ ∀ a, inM (6314 + 27 * k) a → ∀ i, μ' a i = μ a i
    else if ν.isSome = true then v = -2 ∧ μ' 1 3 = μ 1 3 ∧ ∀ a, inM (6314 + 27 * k) a → ∀ i, μ' a i = μ a i
    else v = vlS S h' ∧ μ' 1 3 = -2 ∧ μ' (6314 + 27 * k) 0 = 1 ∧ ∃ h'', mC S N μ' k s bs h'' ∧ hEq S h' h'' ∧ mS S h''
theorem c_wkB {D : Nat} (hD : 9000 ≤ D) (hk : k < 12) (mc : mC S N μ k s bs h) (ms : mS S h) : R3 (ab_run wc ((D + 1)) 373 0 [(2, 1), (2, 1255), (2, (((6314 + 27 * k : Nat) : Int)))] [] μ) (fun μ' => ∃ hw, wkC S h hw ∧ dpS S hw ≤ 12 ∧ cSto S N μ' 1255 2600 9000 12000 s bs hw ∧ frA 1255 μ μ' ∧ hw.1 ≤ 401 ∧ ∃ ni nu us : Nat, ni ≤ 401 ∧ us ≤ 2000 ∧ CM (fun _ => none) S μ' 1255 2600 9000 12000 hw.1 hw.2.1 hw.2.2.1 hw.2.2.2 ni nu us) := sorry
theorem yPu_en {T : Nat → Int} {n : Nat} {ν : Option He} (hT : ∀ k, k < n → 0 ≤ T k ∧ T k < 256) (ok : scOK S N) (v : yIv S h D0 0 1) (e : yPu S N T n h = .inr (ν, h')) : pEn S h' := sorry
theorem c_put0 {D : Nat} (hk : k < 12) (z : μ (6314 + 27 * k) 0 = 0) : (ab_run wc ((D + 13)) 478 0 [(2, 1), (0, k), (3, 0)] [] μ) = some ((0, -2), μ) := sorry
theorem c_putM {D : Nat} (hD : 17000 ≤ D) (hk : k < 12) (c : cRow μ 3 4 4000 tp) (z : μ (6314 + 27 * k) 0 = 1) (mc : mC S N μ k s bs h) (ms : mS S h) : ∃ hw, wkC S h hw ∧ (∀ ν h', yPu S N (tpT tp) tp.length hw = .inr (ν, h') → hG S h' ∧ pEn S h') ∧ ((∀ ν h', yPu S N (tpT tp) tp.length hw = .inr (ν, h') → (0 ≤ vlS S (ν.getD h') ∧ vlS S (ν.getD h') < 2147483648) ∧ 0 ≤ btS S (ν.getD h') ∧ btS S (ν.getD h') < 2147483648) →
    R0 (ab_run wc ((D + 13)) 478 0 [(2, 1), (0, k), (3, 0)] [] μ) (fun v μ' => μ' 3 1 = 0 ∧ frPu k μ μ' ∧ cPu S N μ k s bs (yPu S N (tpT tp) tp.length hw) v μ')) := sorry
end Uq
end
section
section Va
variable {μ μ' μ'' μ0 : ab_M} {d : Nat} {S : SF} {N : NF} {m s : Nat} {h : He} {al : Nat → Bool} {ε : Nat → Nat} {F : Nat → Prop} {uM pM r j e t : Nat} {key : Int × List Int} {pb : Int}
def kyP (S : SF) (μ : ab_M) (m s : Nat) (h : He) (al : Nat → Bool) (ε : Nat → Nat) (uM pM r j e : Nat) (key : Int × List Int) (pb : Int) : Prop := ∃ W c uc own c1 c2 W1 W2, tH S μ m s h.1 al h.2.1 h.2.2.1 h.2.2.2 ε W c uc own uM pM ∧ tKp S (h.2.1 r) j (c r) c1 c2 (W r) W1 W2 (kTk (S 14 (h.2.1 r) j) key.1 key.2 (h.2.2.1 r j)) (kDp (S 14 (h.2.1 r) j) key.1 key.2 (h.2.2.1 r j)) ∧ pb = lsI c1 ∧ (4600 * m < e ∧ e < 4600 * m + uM ∧ ∀ r', r' < h.1 → al r' = true → e ∉ c r' ∧ e ∉ uc r' ∧ ε r' ≠ e) ∧ (μ 7869 e = fX s (h.2.1 r) j ∧ μ 7871 e = -2 ∧ μ 7872 e = -2 ∧ μ 7873 e = 0 ∧ μ 7874 e = 0 ∧ μ 7875 e = 0) ∧ μ 7876 e = key.1 ∧ tMx μ m pM 7877 7878 e key.2
theorem TD.keyR {t' : Nat} (x : TD (fun _ => none) F S N m s μ h al ε uM pM) (y : kyP S μ m s h al ε uM pM r j e key pb) (hr : r < h.1) (ha : al r = true) (hj : j < fCt S (h.2.1 r)) (m3 : S 11 (h.2.1 r) j = 3) (h12 : S 12 (h.2.1 r) j = 12) (h13 : S 13 (h.2.1 r) j = t') (hk : kyE (S 14 (h.2.1 r) j) key = key) :
    R3 (ab_run wt (d + 2) 227 0 [(2, 7756), (0, (ε r)), (0, pb), (0, e), (3, 0), (3, 0)] [] μ) (fun μ' => TD (fun _ => none) F S N m s μ' (hRec S h r j key) (upL al h.1 true) (upL ε h.1 e) uM pM ∧ frK m μ μ') := sorry
theorem TD.keyS {v : Int} {fi : Nat} {l : List Int} (x : TD (fun _ => none) F S N m s μ h al ε uM pM) (y : kyP S μ m s h al ε uM pM r j e key pb) (hr : r < h.1) (ha : al r = true) (hj : j < fCt S (h.2.1 r)) (m3 : S 11 (h.2.1 r) j = 3) (h12 : S 12 (h.2.1 r) j ≠ 12) (hk : kyE (S 14 (h.2.1 r) j) key = key) (hl : fi + l.length ≤ pM) (hb : tBy μ 7879 (9000 * m + fi) l) :
    R3 (ab_run wt (d + 2) 227 0 [(2, 7756), (0, (ε r)), (0, pb), (0, e), (3, 0), (3, 0)] [] μ) (fun μ1 => frH m μ μ1 ∧ R3 (ab_run wt (d + 2) 60 0 [(2, 7756), (0, e), (1, v), (3, 0), (0, fi), (0, (l.length))] [] μ1) (fun μ' => TD (fun _ => none) F S N m s μ' (hSet S N h r j key v l) al ε uM pM ∧ frK m μ μ')) := sorry
theorem tw_keyed (x : TD (fun _ => none) F S N 12 s μ h al ε uM pM) (hr : r < h.1) (ha : al r = true) (hu : uM < 4600) (kf : tKf S μ s uM pM al ε h (some r) (h.2.1 r) j 2 key) :
    ∃ μ3 pb, (∀ d, (ab_run wt (d + 3) 137 0 [(2, 7756), (0, (ε r)), (0, (fX s (h.2.1 r) j)), (3, 0), (3, 0)] [] μ) = ab_cal (ab_run wt (d + 2) 227 0 [(2, 7756), (0, (ε r)), (0, pb), (0, (((55200 + uM : Nat) : Int))), (3, 0), (3, 0)] [] μ3) 3 (fun r4 μ4 => some ((4, r4), μ4)) (fun _ μ4 => some ((0, ((55200 + uM : Nat) : Int)), μ4))) ∧ TD (fun _ => none) F S N 12 s μ3 h al ε (uM + 1) pM ∧ kyP S μ3 12 s h al ε (uM + 1) pM r j (55200 + uM) key pb ∧ frK 12 μ μ3 := sorry
end Va
end
section
section Vb
variable {μ μ' μ'' μ0 : ab_M} {d : Nat} {S : SF} {N : NF} {T : Nat → Int} {n : Nat} {k : Tok} {m s : Nat} {h : He} {al : Nat → Bool} {ε : Nat → Nat} {F : Nat → Prop} {uM pM r j e t la dp : Nat} {key : Int × List Int} {it : Option Nat} {D : Nat → Nat}
theorem tw_itemsH {W : Nat → List We} {c uc : Nat → List Nat} {own : Nat → Nat} (H : tH S μ m s h.1 al h.2.1 h.2.2.1 h.2.2.2 ε W c uc own uM pM) (ts : TS μ s S N) (hr : r < h.1) (ha : al r = true) (hj : j < fCt S (h.2.1 r)) : (ab_run wt (d + 2) 113 0 [(2, 7756), (0, (ε r)), (0, (fX s (h.2.1 r) j)), (3, 0), (3, 0)] [] μ) = some ((0, (((h.2.2.1 r j).length : Nat) : Int)), μ) := sorry
theorem wV_bk {q : It} : ∀ {A : List We}, q ∈ wV A j → (j, q) ∈ A := sorry
theorem tH.alv {W : Nat → List We} {c uc : Nat → List Nat} {own : Nat → Nat} {q : It} (H : tH S μ m s h.1 al h.2.1 h.2.2.1 h.2.2.2 ε W c uc own uM pM) (hr : r < h.1) (ha : al r = true) (so2 : fSo (S 12 (h.2.1 r) j) = 2) (hq : q ∈ h.2.2.1 r j) : al q.2.2.2.2 = true := sorry
def frTc (μ μ' : ab_M) : Prop := ∀ a i, ¬ mine 12 a i → a ≠ 7761 → (a ≠ 7756 ∨ (i < 7 ∨ 18 < i) ∧ (i < 154 ∨ 167 < i) ∧ (i < 233 ∨ 243 < i)) → μ' a i = μ a i
theorem frTc.refl : frTc μ μ := sorry
theorem frTc.trans (f : frTc μ μ') (g : frTc μ' μ'') : frTc μ μ'' := sorry
theorem frTy.tc (f : frTy μ μ') : frTc μ μ' := sorry
theorem frK.tc (f : frK 12 μ μ') : frTc μ μ' := sorry
theorem frTc.up {i : Nat} {v : Int} (hi : 233 ≤ i) (hi2 : i ≤ 243) : frTc μ (ab_up μ 7756 i v) := sorry
def FtC (run : ab_R) (μ : ab_M) (f : Flt) : Prop := ∃ μ', run = some ((0, 0), μ') ∧ μ' 7756 17 = f.1 ∧ μ' 7756 18 = f.2 ∧ frTc μ μ'
theorem FtP.tc {run : ab_R} {f : Flt} (g : FtP run μ f) : FtC run μ f := sorry
theorem FtC.to {run : ab_R} {f : Flt} (g : FtC run μ' f) (q : frTc μ μ') : FtC run μ f := sorry
theorem tw_come (x : TD (fun _ => none) (fun _ => False) S N 12 s μ h al ε uM pM) (v : yIv S h D r dp) (ha : al r = true) (hj : j < fCt S (h.2.1 r)) (k12 : S 12 (h.2.1 r) j = 12) (ck : la = 0 → S 11 (h.2.1 r) j < 2) (hu : uM < 4600) (hL : (h.2.2.1 r j).length < 100000) (fx : yFx S h r j la it key) (yr : yRc h (some r) j la it = none) (c1 : μ 7756 234 = fX s (h.2.1 r) j) (c2 : μ 7756 237 = la) (c3 : μ 7756 233 = ε r) (kf : tKf S μ s uM pM al ε h (some r) (h.2.1 r) j la key) :
    (yLo h r j la it key → (ab_run wt (d + 7) 25 0 [(2, 7756), (3, 0)] [] μ) = some ((0, -2), μ)) ∧ (¬ yLo h r j la it key → R0 (ab_run wt (d + 7) 25 0 [(2, 7756), (3, 0)] [] μ) (fun v μ' => ∃ al' ε' uM', v = ε' h.1 ∧ (uM ≤ uM' ∧ uM' ≤ uM + 1) ∧ TD (fun _ => none) (fun _ => False) S N 12 s μ' (hRec S h r j key) al' ε' uM' pM ∧ al' h.1 = true ∧ tdK r h al al' ε ε' ∧ frK 12 μ μ')) := sorry
theorem tw_intoC {ρ : Option Nat} (ty : TY S N T n s μ k h al ε uM pM) (h0 : 0 < h.1 ∧ al 0 = true) (v : ∀ r, ρ = some r → yIv S h D r dp) (hρ : ∀ r, ρ = some r → h.2.1 r = t ∧ al r = true) (tO : (t : Int) < S 0 0 0 ∧ S 2 t 0 = 1) (hj : j < fCt S t) (k12 : S 12 t j = 12) (ck : la = 0 → S 11 t j < 2) (hu : uM < 4600) (hL : ∀ r, ρ = some r → (h.2.2.1 r j).length < 100000) (fx : ∀ r, ρ = some r → yFx S h r j la it key) (io : itO S h ρ t j la it) (cu : tCu S μ s pM ε h (ρ, t, j, la, it)) (kf : tKf S μ s uM pM al ε h ρ t j la key) (pd : μ 7756 239 = dp) (d12 : dp < 12) :
    ∃ (h' : He) (ρ' : Option Nat) (al' : Nat → Bool) (ε' : Nat → Nat) (uM' : Nat) (μ' : ab_M), (ab_run wt (d + 8) 81 0 [(2, 7756), (0, 1)] [] μ) = some ((0, 1), μ') ∧ TY S N T n s μ' k h' al' ε' uM' pM ∧ (uM ≤ uM' ∧ uM' ≤ uM + 1) ∧ tRc μ' ε' ρ' ∧ (∀ r', ρ' = some r' → al' r' = true) ∧ μ' 7756 239 = ((dp + 1 : Nat) : Int) ∧ frTc μ μ' ∧ (ρ = none → h' = h ∧ ρ' = none) ∧ ∀ r, ρ = some r → (if (yEc S h r j la it key).2.2 = true then h' = h ∧ ρ' = none else h' = (yEc S h r j la it key).1 ∧ ρ' = some (yEc S h r j la it key).2.1) := sorry
end Vb
end
section
section Vc
variable {μ μ' μ'' μ0 : ab_M} {d : Nat} {S : SF} {N : NF} {T : Nat → Int} {n : Nat} {k : Tok} {s : Nat} {h hT : He} {al : Nat → Bool} {ε : Nat → Nat} {uM pM r j t la dp : Nat} {key : Int × List Int} {it ρ : Option Nat} {D : Nat → Nat} {ν : Option He}
def pRl (h hT : He) (r : Nat) (ν : Option He) (ρ : Option Nat) : Prop := (ν = none ∧ hT = h ∧ ρ = some r) ∨ ∃ h0, ν = some h0 ∧ hT = h0 ∧ ρ = none ∧ ∀ c, h.2.2.1 r c = []
theorem yIx_lost {op : Nat} (e : ∀ c, h.2.2.1 r c = []) : yIx S N T n h (some r) t j op k = yIx S N T n hT none t j op k := sorry
theorem ySt_lost (e : ∀ c, h.2.2.1 r c = []) : ySt S N T n h (some r) t k = ySt S N T n hT none t k := sorry
theorem pRl.st (p : pRl h hT r ν ρ) : ySt S N T n h (some r) t k = ySt S N T n hT ρ t k := sorry
def hLn (S : SF) (h : He) (B : Nat) : Prop := ∀ r j, r < h.1 → j < fCt S (h.2.1 r) → (h.2.2.1 r j).length < B
theorem kIn_len {kk : Int} {v : Int} {l : List Int} {L : List It} {x : It} : (kTk kk v l L ++ x :: kDp kk v l L).length = L.length + 1 := sorry
theorem hRec_len (hr : r < h.1) {a c : Nat} (ha : a < h.1) : ((hRec S h r j key).2.2.1 a c).length ≤ (h.2.2.1 a c).length + 1 := sorry
theorem hLn.ec {B : Nat} (g : hLn S h B) (b1 : 1 ≤ B) (hr : r < h.1) : hLn S (yEc S h r j la it key).1 (B + 1) := sorry
def tPr (S : SF) (N : NF) (T : Nat → Int) (n s : Nat) (μ0 : ab_M) (run : ab_R) : Flt ⊕ (Pl × Tok) → Prop
  | .inl f => FtC run μ0 f
  | .inr ((h, r, j, la, it, key, dp, ν), k) => ∃ (μ' : ab_M) (hT : He) (ρ : Option Nat) (al : Nat → Bool) (ε : Nat → Nat) (uM pM : Nat), run = some ((0, 1), μ') ∧ TY S N T n s μ' k hT al ε uM pM ∧ pRl h hT r ν ρ ∧ tCu S μ' s pM ε hT (ρ, h.2.1 r, j, la, it) ∧ tKf S μ' s uM pM al ε hT ρ (h.2.1 r) j la key ∧ (∀ r, ρ = some r → al r = true) ∧ μ' 7756 239 = dp ∧ (uM ≤ 440 + k.2.1 ∧ pM ≤ 2000 + k.2.1) ∧ frTc μ0 μ'
noncomputable def tEc (d s t : Nat) (μ : ab_M) : ab_R := if μ 7756 8 = 1 then ab_cal (ab_run wt (d + 9) 293 0 [(2, 7756), (0, 12), (0, (((30 * s + t : Nat) : Int))), (0, 1), (3, 0)] [] μ) 0 (fun r1 μ1 => some ((4, r1), μ1)) (fun r8 μ8 => if r8 = 0 then some ((0, 0), μ8) else (ab_run wt (d + 10) 207 70 [(2, 7756), (0, 12), (0, 1), (3, 0), (3, 0), (3, 0)] [] μ8)) else ab_cal (ab_run wt (d + 9) 21 0 [(2, 7756)] [] μ) 0 (fun r1 μ1 => some ((4, r1), μ1)) (fun r9 μ9 => if r9 = 0 ∨ r9 = 1 then some ((0, r9), μ9) else none)
theorem TY.h0 (ty : TY S N T n s μ k hT al ε uM pM) : 0 < hT.1 ∧ al 0 = true := sorry
theorem tw_p70C {c : Nat} (ty : TY S N T n s μ k hT al ε uM pM) (v : yIv S h D r dp) (ls : yLs S ν h r) (d12 : dp ≤ 12) (pr : pRl h hT r ν ρ) (hj : j < fCt S (h.2.1 r)) (fx : yFx S h r j la it key) (io : itO S hT ρ (h.2.1 r) j la it) (cu : tCu S μ s pM ε hT (ρ, h.2.1 r, j, la, it)) (kf : tKf S μ s uM pM al ε hT ρ (h.2.1 r) j la key) (hα : ∀ r, ρ = some r → al r = true) (pd : μ 7756 239 = dp) (u2 : uM ≤ 440 + k.2.1) (p2 : pM ≤ 2000 + k.2.1) (hL : hLn S h (1000 + k.2.1)) (nb : la = 0 → ¬ isSg k 91) (hn : n ≤ k.2.1 + c) (n4 : n ≤ 4000) (q3 : frTc μ0 μ)
    (R : ∀ (μ : ab_M) (k : Tok) (h hT : He) (D : Nat → Nat) (r dp : Nat) (ν : Option He) (ρ : Option Nat) (al : Nat → Bool) (ε : Nat → Nat) (uM pM : Nat), TY S N T n s μ k hT al ε uM pM → n < k.2.1 + c → yIv S h D r dp → yLs S ν h r → dp ≤ 12 → pRl h hT r ν ρ → tRc μ ε ρ → (∀ r, ρ = some r → al r = true) → μ 7756 239 = dp → uM ≤ 440 + k.2.1 → pM ≤ 2000 + k.2.1 → hLn S h (1000 + k.2.1) → frTc μ0 μ → tPr S N T n s μ0 (tEc d s (h.2.1 r) μ) (yPc S N T n c h r dp ν k)) :
    tPr S N T n s μ0 (ab_run wt (d + 10) 207 70 [(2, 7756), (0, 12), (0, 1), (3, 0), (3, 0), (3, 0)] [] μ) (yBc S N T n c h r j la it key dp ν k) := sorry
end Vc
end
section
section Vd
variable {μ μ' μ'' μ0 : ab_M} {d : Nat} {S : SF} {N : NF} {T : Nat → Int} {n : Nat} {k : Tok} {s : Nat} {h hT : He} {al : Nat → Bool} {ε : Nat → Nat} {uM pM r j t la dp : Nat} {key : Int × List Int} {it ρ : Option Nat} {D : Nat → Nat} {ν : Option He}
theorem tw_erC (n4 : n ≤ 4000) : ∀ (c : Nat) (μ : ab_M) (k : Tok) (h hT : He) (D : Nat → Nat) (r dp : Nat) (ν : Option He) (ρ : Option Nat) (al : Nat → Bool) (ε : Nat → Nat) (uM pM : Nat), TY S N T n s μ k hT al ε uM pM → n < k.2.1 + c → yIv S h D r dp → yLs S ν h r → dp ≤ 12 → pRl h hT r ν ρ → tRc μ ε ρ → (∀ r, ρ = some r → al r = true) → μ 7756 239 = dp → uM ≤ 440 + k.2.1 → pM ≤ 2000 + k.2.1 → hLn S h (1000 + k.2.1) → frTc μ0 μ → tPr S N T n s μ0 (tEc d s (h.2.1 r) μ) (yPc S N T n c h r dp ν k) := sorry
theorem tw_pathC (n4 : n ≤ 4000) (ty : TY S N T n s μ k h al ε uM pM) (v : yIv S h D 0 1) (u2 : uM ≤ 440 + k.2.1) (p2 : pM ≤ 2000 + k.2.1) (hL : hLn S h (1000 + k.2.1)) {c : Nat} (hn : n < k.2.1 + c) :
    tPr S N T n s μ (ab_run wt (d + 10) 207 0 [(2, 7756), (0, 12), (0, 1), (3, 0), (3, 0), (3, 0)] [] μ) (yPc S N T n c h 0 1 none k) := sorry
end Vd
end
section
section Ve
variable {μ μ' μ'' μ0 : ab_M} {d : Nat} {S : SF} {N : NF} {T : Nat → Int} {n : Nat} {k kq : Tok} {s m : Nat} {h h' : He} {al : Nat → Bool} {ε : Nat → Nat} {uM pM r j t dp rc : Nat} {F : Fr} {hs : Int → List Int → He} {hc : He}
def frTv (m : Nat) (μ μ' : ab_M) : Prop := ∀ a i, ¬ mine m a i → a ≠ 7761 → a ≠ 7883 → a ≠ 7881 → a ≠ 7882 → a ≠ 7884 → (a ≠ 7756 ∨ (i < 7 ∨ 18 < i) ∧ (i < 154 ∨ 168 < i) ∧ (i < 233 ∨ 243 < i)) → μ' a i = μ a i
theorem frTv.refl : frTv m μ μ := sorry
theorem frTv.trans (f : frTv m μ μ') (g : frTv m μ' μ'') : frTv m μ μ'' := sorry
theorem frZ.tv (f : frZ m μ μ') : frTv m μ μ' := sorry
theorem frTc.tv (f : frTc μ μ') : frTv 12 μ μ' := sorry
theorem frH.tv (f : frH m μ μ') : frTv m μ μ' := sorry
theorem frL.tv (f : frL μ μ') : frTv m μ μ' := sorry
def FtV (m : Nat) (run : ab_R) (μ : ab_M) (f : Flt) : Prop := ∃ μ', run = some ((0, 0), μ') ∧ μ' 7756 17 = f.1 ∧ μ' 7756 18 = f.2 ∧ frTv m μ μ'
theorem FtV.to {run : ab_R} {f : Flt} (g : FtV m run μ' f) (q : frTv m μ μ') : FtV m run μ f := sorry
theorem FtC.tv {run : ab_R} {f : Flt} (g : FtC run μ f) : FtV 12 run μ f := sorry
def tVr (m : Nat) (S : SF) (N : NF) (T : Nat → Int) (n s dp : Nat) (μ0 : ab_M) (run : ab_R) : Flt ⊕ Xs → Prop
  | .inl f => FtV m run μ0 f
  | .inr X => X.2.2 = [] ∧ ∃ (μ' : ab_M) (al : Nat → Bool) (ε : Nat → Nat) (uM pM : Nat), run = some ((0, 1), μ') ∧ tT μ' T n X.1 ∧ TX S N T n m s dp μ' X.2.1 [] al ε uM pM ∧ (uM ≤ 450 + X.1.2.1 ∧ pM ≤ 2100 + X.1.2.1) ∧ frTv m μ0 μ'
theorem tVr.to {run : ab_R} {R : Flt ⊕ Xs} (x : tVr m S N T n s dp μ' run R) (f : frTv m μ μ') : tVr m S N T n s dp μ run R := sorry
theorem TX.sm {h' : He} {K : List Fr} (x : TX S N T n m s dp μ h' K al ε uM pM) (f : frL μ μ') : TX S N T n m s dp μ' h' K al ε uM pM := sorry
theorem tw_vnext (x : TX S N T n m s dp μ h' [] al ε uM pM) (ht : tT μ T n kq) (u2 : uM ≤ 450 + kq.2.2.1) (p2 : pM ≤ 2100 + kq.2.2.1) : tVr m S N T n s dp μ (ab_cal (ab_run wt (d + 11) 174 0 [(2, 7756), (3, 0), (3, 0)] [] μ) 0 (fun r1 μ1 => some ((4, r1), μ1)) (fun r1 μ1 => if r1 = 0 ∨ r1 = 1 then some ((0, r1), μ1) else none)) (match xAdv T n kq with
    | .inl f => .inl f
    | .inr k2 => .inr (k2, h', [])) := sorry
noncomputable def tOp (d : Nat) (w : Int) (e g : Int) (μ : ab_M) : ab_R := ab_cal (ab_run wt (d + 11) 185 0 [(2, 7756), (0, w), (0, e), (0, g), (3, 0)] [] μ) 0 (fun r1 μ1 => some ((4, r1), μ1)) (fun _ μ1 => ab_cal (ab_run wt (d + 11) 174 0 [(2, 7756), (3, 0), (3, 0)] [] μ1) 0 (fun r2 μ2 => some ((4, r2), μ2)) (fun r2 μ2 => if r2 = 0 then some ((0, 0), μ2) else ab_cal (ab_run wt (d + 11) 257 0 [(2, 7756), (3, 0), (3, 0)] [] μ2) 0 (fun r3 μ3 => some ((4, r3), μ3)) (fun r3 μ3 => if r3 = 0 then some ((0, 0), μ3) else some ((0, 1), μ3))))
theorem tw_vopen {w f : Nat} {g : Int} (x : TX S N T n m s dp μ h' [] al ε uM pM) (ht : tT μ T n k) (hw : w ≤ 2) (hz : m = 13 → w = 0 → rc ≠ 0) (hg : w ≠ 0 → g = fX s (h'.2.1 rc) f) (hc : rc < h'.1) (ha : al rc = true) (hb : dp ≤ 12) (xo : ∀ k', xOK S (k', h', [(w, rc, f, [])])) (u2 : uM ≤ 450 + k.2.2.1) (p2 : pM ≤ 2100 + k.2.2.1) : tVr m S N T n s dp μ (tOp d w (ε rc) g μ) (match xAdv T n k with
    | .inl f => .inl f
    | .inr k' => xIt S N T n dp (n + 1) (k', h', [(w, rc, f, [])])) := sorry
theorem tw_249 (x : TX S N T n m s dp μ h [] al ε uM pM) (ms : μ 7863 12 = s) (ht : tT μ T n k) (hr : r < h.1) (ha : al r = true) (hj : j < fCt S (h.2.1 r)) (hb : dp ≤ 12) (u2 : uM ≤ 445 + k.2.1) (p2 : pM ≤ 2050 + k.2.1)
    (hS : S 12 (h.2.1 r) j ≠ 12 → ∀ (μ' : ab_M) (v : Int) (l : List Int) (fi pM' : Nat), TX S N T n m s dp μ' h [] al ε uM pM' → pM ≤ pM' → frS m pM μ μ' → μ' 7756 163 = v → μ' 7756 164 = fi → μ' 7756 165 = l.length → fi + l.length ≤ pM' → tBy μ' 7879 (9000 * m + fi) l → R3 (ab_run wt (d + 11) 237 0 [(2, 7756), (0, (ε r)), (0, (fX s (h.2.1 r) j)), (3, 0)] [] μ') (fun μ'' => ∃ al' ε' uM', TX S N T n m s dp μ'' (hs v l) [] al' ε' uM' pM' ∧ uM' ≤ uM + 1 ∧ frH m μ' μ''))
    (hR : S 12 (h.2.1 r) j = 12 → R0 (ab_run wt (d + 11) 235 0 [(2, 7756), (0, (ε r)), (0, (fX s (h.2.1 r) j)), (3, 0), (3, 0)] [] μ) (fun e μ'' => ∃ al' ε' uM', e = ε' rc ∧ TX S N T n m s dp μ'' hc [] al' ε' uM' pM ∧ al' rc = true ∧ rc < hc.1 ∧ uM' ≤ uM + 1 ∧ frH m μ μ''))
    (nz : m = 13 → rc ≠ 0) (xo : S 12 (h.2.1 r) j = 12 → ¬ 12 < dp + 1 → ∀ k', xOK S (k', hc, [(0, rc, 0, [])])) :
    tVr m S N T n s dp μ (ab_run wt (d + 12) 225 249 [(2, 7756), (0, (fX s (h.2.1 r) j)), (0, (ε r)), (0, (k.2.1)), (3, 0), (3, 0)] [] μ) (xEn S N T n dp (xVq S N T n dp (S 12 (h.2.1 r) j) (S 13 (h.2.1 r) j).toNat hs hc rc [] k)) := sorry
end Ve
end
