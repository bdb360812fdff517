set_option maxRecDepth 16384
section
section Tk
variable {μ μ' μ'' : ab_M} {d : Nat} {T : Nat → Int} {n : Nat} {k : Tok}
def tkO (T : Nat → Int) (n : Nat) (k : Tok) : Prop := k.1 ≤ 5 ∧ k.2.1 ≤ k.2.2.1 ∧ k.2.2.1 ≤ n ∧ (k.1 ≠ 0 → k.2.1 < k.2.2.1) ∧ (k.1 = 1 → nmT (slc T k.2.1 (k.2.2.1 - k.2.1))) ∧ (k.1 = 3 → 0 ≤ k.2.2.2.1 ∧ k.2.2.2.1 < 9223372036854775808) ∧ byt k.2.2.2.2 ∧ k.2.2.2.2.length ≤ 60 ∧ k.2.2.2.2.length + k.2.1 ≤ k.2.2.1
theorem lx_tkO {p : Nat} (hT : ∀ k, k < n → 0 ≤ T k ∧ T k < 256) (hp : p ≤ n) (h : lx T n p = some k) : tkO T n k ∧ p ≤ k.2.1 := sorry
def cT (μ : ab_M) (T : Nat → Int) (n : Nat) (k : Tok) : Prop := cTx μ T n ∧ cTk μ k ∧ tkO T n k
abbrev isSg (k : Tok) (c : Int) : Prop := k.1 = 5 ∧ k.2.2.2.1 = c
abbrev isWd (k : Tok) (w : Int) : Prop := k.1 = 2 ∧ k.2.2.2.1 = w
def frP (μ μ' : ab_M) : Prop := ∀ a i, a ≠ 2 → a ≠ 8 → a ≠ 9 → a ≠ 1309 → (a ≠ 1 ∨ i ≠ 18 ∧ i ≠ 20) → μ' a i = μ a i
theorem frP.refl : frP μ μ := sorry
theorem frP.trans (h : frP μ μ') (h' : frP μ' μ'') : frP μ μ'' := sorry
theorem cT.code (h : cT μ T n k) : (μ 8 3 = 200105 ↔ k.1 = 5) ∧ (μ 8 3 = 200102 ↔ k.1 = 2) ∧ (μ 8 3 = 200101 ↔ k.1 = 1) ∧ (μ 8 3 = 200103 ↔ k.1 = 3) ∧ (μ 8 3 = 200104 ↔ k.1 = 4) ∧ (μ 8 3 = 200100 ↔ k.1 = 0) ∧ μ 8 3 = 200100 + k.1 := sorry
theorem c_isSign {c : Int} (h : cT μ T n k) : (ab_run wc (d + 1) 671 0 [(2, 8), (0, c)] [] μ) = some ((0, if isSg k c then 1 else 0), μ) := sorry
theorem c_isWord {c : Int} (h : cT μ T n k) : (ab_run wc (d + 1) 673 0 [(2, 8), (0, c)] [] μ) = some ((0, if isWd k c then 1 else 0), μ) := sorry
theorem rfM {x y : Int} : frP μ (ab_up (ab_up μ 2 6 x) 2 7 y) := sorry
def Rf (x : ab_R) (μ : ab_M) (f p : Int) : Prop := RT x (fun μ' => μ' 2 6 = f ∧ μ' 2 7 = p ∧ frP μ μ')
theorem Rf.of {x y : Int} : Rf (some ((4, 2), ab_up (ab_up μ 2 6 x) 2 7 y)) μ x y := sorry
theorem c_wrong (h : cT μ T n k) : (ab_run wc (d + 2) 682 0 [(2, 8)] [] μ) = some ((4, 2), ab_up (ab_up μ 2 6 2) 2 7 k.2.1) := sorry
theorem c_adv (h : cT μ T n k) : (∀ k', lx T n k.2.2.1 = some k' → R3 (ab_run wc (d + 4) 665 0 [(2, 8), (3, 0)] [] μ) (fun μ' => cT μ' T n k' ∧ k.2.2.1 ≤ k'.2.1 ∧ frP μ μ')) ∧ (lx T n k.2.2.1 = none → Rf (ab_run wc (d + 4) 665 0 [(2, 8), (3, 0)] [] μ) μ 1 (lxB T n false k.2.2.1)) := sorry
theorem c_takes0 {c : Int} (h : cT μ T n k) (z : ¬ isSg k c) : (ab_run wc (d + 5) 680 0 [(2, 8), (0, c)] [] μ) = some ((0, 0), μ) := sorry
theorem c_takes1 {c : Int} (h : cT μ T n k) (z : isSg k c) : (∀ k', lx T n k.2.2.1 = some k' → R0 (ab_run wc (d + 5) 680 0 [(2, 8), (0, c)] [] μ) (fun v μ' => v = 1 ∧ cT μ' T n k' ∧ k.2.2.1 ≤ k'.2.1 ∧ frP μ μ')) ∧ (lx T n k.2.2.1 = none → Rf (ab_run wc (d + 5) 680 0 [(2, 8), (0, c)] [] μ) μ 1 (lxB T n false k.2.2.1)) := sorry
theorem c_need0 {c : Int} (h : cT μ T n k) (z : ¬ isSg k c) : Rf (ab_run wc (d + 6) 675 0 [(2, 8), (0, c)] [] μ) μ 2 k.2.1 := sorry
theorem c_need1 {c : Int} (h : cT μ T n k) (z : isSg k c) : (∀ k', lx T n k.2.2.1 = some k' → R3 (ab_run wc (d + 6) 675 0 [(2, 8), (0, c)] [] μ) (fun μ' => cT μ' T n k' ∧ k.2.2.1 ≤ k'.2.1 ∧ frP μ μ')) ∧ (lx T n k.2.2.1 = none → Rf (ab_run wc (d + 6) 675 0 [(2, 8), (0, c)] [] μ) μ 1 (lxB T n false k.2.2.1)) := sorry
theorem c_needName0 (h : cT μ T n k) (z : k.1 ≠ 1) : Rf (ab_run wc (d + 3) 676 0 [(2, 8)] [] μ) μ 2 k.2.1 := sorry
theorem c_needName1 (h : cT μ T n k) (z : k.1 = 1) : (ab_run wc (d + 3) 676 0 [(2, 8)] [] μ) = some ((3, 0), μ) := sorry
abbrev bgV (k : Tok) : Prop := k.1 = 1 ∨ k.1 = 3 ∨ k.1 = 4 ∨ k.1 = 2 ∧ (k.2.2.2.1 = 24 ∨ k.2.2.2.1 = 25) ∨ k.1 = 5 ∧ (k.2.2.2.1 = 45 ∨ k.2.2.2.1 = 123 ∨ k.2.2.2.1 = 91 ∨ k.2.2.2.1 = 60)
theorem tk_st : ∀ j : Nat, j < 6 → wc_ob (200100 + j) 21 = true ∧ ∀ μ, pr_ord [(2, ((200100 + j : Nat) : Int))] μ = some ((0, (j : Int)), μ) := sorry
theorem c_beginsValue (h : cT μ T n k) : (ab_run wc (d + 1) 374 0 [(2, 1)] [] μ) = some ((0, if bgV k then 1 else 0), μ) := sorry
theorem c_needValue {x : Int} (h : cT μ T n k) : (bgV k → x ≠ 0 → (ab_run wc (d + 3) 458 0 [(2, 1), (0, x)] [] μ) = some ((3, 0), μ)) ∧ (bgV k → x = 0 → Rf (ab_run wc (d + 3) 458 0 [(2, 1), (0, x)] [] μ) μ 7 k.2.1) ∧ (¬ bgV k → Rf (ab_run wc (d + 3) 458 0 [(2, 1), (0, x)] [] μ) μ 2 k.2.1) := sorry
end Tk
end
section
section Sv
variable {μ μ' μ'' : ab_M} {d : Nat} {T : Nat → Int} {n : Nat} {k : Tok} {b : Nat} {S : SF} {N : NF}
abbrev Flt := Int × Int
noncomputable def nvF (k : Tok) : Flt := if bgV k then (7, (k.2.1 : Int)) else (2, (k.2.1 : Int))
def tkN (T : Nat → Int) (k : Tok) : List Int := slc T k.2.1 (k.2.2.1 - k.2.1)
noncomputable def kFb (q v : Int) : Bool := @decide (kFit q v) (Classical.propDecidable _)
theorem kFb_t {q v : Int} (h : kFit q v) : kFb q v = true := sorry
theorem kFb_f {q v : Int} (h : ¬ kFit q v) : ¬ kFb q v = true := sorry
noncomputable def rdS (S : SF) (N : NF) (T : Nat → Int) (n : Nat) (q : Int) (t : Nat) (k : Tok) : Flt ⊕ (Int × List Int × Tok) :=
  if q = 9 ∨ q = 10 then
    if k.1 = 4 then (if q = 9 ∧ ¬ utf k.2.2.2.2 then .inl (7, (k.2.1 : Int)) else .inr (0, k.2.2.2.2, k)) else .inl (nvF k)
  else if q = 0 then
    if k.1 = 2 ∧ (k.2.2.2.1 = 24 ∨ k.2.2.2.1 = 25) then .inr (if k.2.2.2.1 = 24 then 1 else 0, [], k) else .inl (nvF k)
  else if q = 11 ∧ k.1 = 1 then
    if nFd (N 2 t) (tkN T k) (S 3 t 0).toNat 0 < 0 then .inl (5, (k.2.1 : Int)) else .inr (S 25 t (nFd (N 2 t) (tkN T k) (S 3 t 0).toNat 0).toNat, [], k)
  else if isSg k 45 then
    match lx T n k.2.2.1 with
    | none => .inl (1, (lxB T n false k.2.2.1 : Int))
    | some k2 => if k2.1 = 3 then (if kFb q (-k2.2.2.2.1) = true then .inr (-k2.2.2.2.1, [], k2) else .inl (7, (k.2.1 : Int))) else .inl (2, (k2.2.1 : Int))
  else if k.1 = 3 then (if kFb q k.2.2.2.1 = true then .inr (k.2.2.2.1, [], k) else .inl (7, (k.2.1 : Int)))
  else .inl (nvF k)
theorem slc_gt {i a m : Nat} {x : Int} (h : (slc T a m)[i]? = some x) : i < m ∧ x = T (a + i) := sorry
theorem cT.name (h : cT μ T n k) : cBy μ 4 k.2.1 (tkN T k) ∧ (tkN T k).length = k.2.2.1 - k.2.1 ∧ k.2.1 + (tkN T k).length ≤ 4000 ∧ μ 8 0 = 4 ∧ μ 8 4 = k.2.1 ∧ μ 8 5 = (tkN T k).length := sorry
theorem c_isWhole (h : cT μ T n k) : (ab_run wc (d + 2) 672 0 [(2, 8)] [] μ) = some ((0, if k.1 = 3 ∨ isSg k 45 then 1 else 0), μ) := sorry
theorem frP.cT {k : Tok} (h : cT μ T n k) (f : ∀ a i, a = 4 ∨ a = 8 ∨ a = 9 → μ' a i = μ a i) : cT μ' T n k := sorry
theorem c_rn181 {q v : Int} {p : Nat} (h : cT μ T n k) (h3 : k.1 = 3) (q1 : 0 ≤ q) (q2 : q ≤ 12) (x : Int) (hv : v = if x = 0 then k.2.2.2.1 else -k.2.2.2.1) : (kFit q v → (ab_run wc (d + 3) 490 181 [(2, 1), (3, 0), (2, (200000 + q)), (3, 0), (0, p), (0, x)] [] μ) = some ((3, 0), ab_up μ 1 18 v)) ∧ (¬ kFit q v → Rf (ab_run wc (d + 3) 490 181 [(2, 1), (3, 0), (2, (200000 + q)), (3, 0), (0, p), (0, x)] [] μ) μ 7 p) := sorry
def rdP (μ : ab_M) (q : Int) (r : Int × List Int × Tok) (T : Nat → Int) (n : Nat) (μ' : ab_M) : Prop := cT μ' T n r.2.2 ∧ ((q ≠ 9 ∧ q ≠ 10) → μ' 1 18 = r.1) ∧ (q = 9 ∨ q = 10 → μ' 1 20 = r.2.1.length ∧ cBy μ' 1309 0 r.2.1) ∧ frP μ μ'
theorem c_rn139 {q : Int} (h : cT μ T n k) (q1 : 1 ≤ q) (q2 : q ≤ 11) (q9 : q ≠ 9 ∧ q ≠ 10) (ne : ¬ (q = 11 ∧ k.1 = 1)) {t : Nat} :
    (∀ f, rdS S N T n q t k = .inl f → Rf (ab_run wc (d + 6) 490 139 [(2, 1), (3, 0), (2, (200000 + q)), (3, 0), (0, (k.2.1)), (3, 0)] [] μ) μ f.1 f.2) ∧ ∀ r, rdS S N T n q t k = .inr r → R3 (ab_run wc (d + 6) 490 139 [(2, 1), (3, 0), (2, (200000 + q)), (3, 0), (0, (k.2.1)), (3, 0)] [] μ) (rdP μ q r T n) := sorry
end Sv
end
section
section Sv
variable {μ μ' μ'' : ab_M} {d : Nat} {T : Nat → Int} {n : Nat} {k : Tok} {b : Nat} {S : SF} {N : NF}
theorem ar9 : wc_ar 9 = (4, 60) ∧ wc_ar 1309 = (4, 60) := sorry
theorem c_readNumber {q x : Int} {t : Nat} (h : cT μ T n k) (hb : isS b) (ok : scOK S N) (hc : cSc μ b S N) (q1 : 0 ≤ q) (q2 : q ≤ 11) (q9 : q ≠ 9 ∧ q ≠ 10) (ht : q = 11 → x = t ∧ (t : Int) < S 0 0 0 ∧ S 2 t 0 = 0) :
    (∀ f, rdS S N T n q t k = .inl f → Rf (ab_run wc (d + 6) 490 0 [(2, 1), (2, b), (2, (200000 + q)), (0, x), (3, 0), (3, 0)] [] μ) μ f.1 f.2) ∧ ∀ r, rdS S N T n q t k = .inr r → R3 (ab_run wc (d + 6) 490 0 [(2, 1), (2, b), (2, (200000 + q)), (0, x), (3, 0), (3, 0)] [] μ) (rdP μ q r T n) := sorry
theorem c_readString {q : Int} {t : Nat} (h : cT μ T n k) (q9 : q = 9 ∨ q = 10) :
    (∀ f, rdS S N T n q t k = .inl f → Rf (ab_run wc (d + 6) 493 0 [(2, 1), (2, (200000 + q))] [] μ) μ f.1 f.2) ∧ ∀ r, rdS S N T n q t k = .inr r → R3 (ab_run wc (d + 6) 493 0 [(2, 1), (2, (200000 + q))] [] μ) (rdP μ q r T n) := sorry
theorem c_readPlain {q x : Int} {t : Nat} (h : cT μ T n k) (hb : isS b) (ok : scOK S N) (hc : cSc μ b S N) (q1 : 0 ≤ q) (q2 : q ≤ 11) (ht : q = 11 → x = t ∧ (t : Int) < S 0 0 0 ∧ S 2 t 0 = 0) :
    (∀ f, rdS S N T n q t k = .inl f → Rf (ab_run wc (d + 7) 491 0 [(2, 1), (2, b), (2, (200000 + q)), (0, x)] [] μ) μ f.1 f.2) ∧ ∀ r, rdS S N T n q t k = .inr r → R3 (ab_run wc (d + 7) 491 0 [(2, 1), (2, b), (2, (200000 + q)), (0, x)] [] μ) (rdP μ q r T n) := sorry
end Sv
end
section
section Tk
variable {μ μ' μ'' : ab_M} {d : Nat} {T : Nat → Int} {n : Nat} {k : Tok}
def tT (μ : ab_M) (T : Nat → Int) (n : Nat) (k : Tok) : Prop := tTx μ T n ∧ tTk μ T k ∧ tkO T n k ∧ μ 7756 17 = 0
def frL (μ μ' : ab_M) : Prop := ∀ a i, a ≠ 7761 → (a ≠ 7756 ∨ i < 7 ∨ 18 < i) → μ' a i = μ a i
theorem frL.refl : frL μ μ := sorry
theorem frL.trans (h : frL μ μ') (h' : frL μ' μ'') : frL μ μ'' := sorry
theorem tT.code (h : tT μ T n k) : (μ 7756 8 = 5 ↔ k.1 = 5) ∧ (μ 7756 8 = 4 ↔ k.1 = 2) ∧ (μ 7756 8 = 1 ↔ k.1 = 1) ∧ (μ 7756 8 = 2 ↔ k.1 = 3) ∧ (μ 7756 8 = 3 ↔ k.1 = 4) ∧ (μ 7756 8 = 0 ↔ k.1 = 0) := sorry
theorem tw_isSign {c : Int} (h : tT μ T n k) (hc : c < 256) : (ab_run wt (d + 1) 105 0 [(2, 7756), (0, c)] [] μ) = some ((0, if isSg k c then 1 else 0), μ) := sorry
theorem tw_isWord {c : Int} (h : tT μ T n k) : (ab_run wt (d + 1) 110 0 [(2, 7756), (0, c)] [] μ) = some ((0, if isWd k c then 1 else 0), μ) := sorry
def Ft (x : ab_R) (fr : ab_M → Prop) (f p : Int) : Prop := R0 x (fun v μ' => v = 0 ∧ μ' 7756 17 = f ∧ μ' 7756 18 = p ∧ fr μ')
theorem tw_wrong {x y : Int} (h : μ 7756 17 = 0) : (ab_run wt (d + 1) 340 0 [(2, 7756), (0, x), (0, y)] [] μ) = some ((0, 0), ab_up (ab_up μ 7756 17 x) 7756 18 y) := sorry
theorem wrM {x y : Int} : frL μ (ab_up (ab_up μ 7756 17 x) 7756 18 y) := sorry
theorem Ft.of {x y : Int} : Ft (some ((0, 0), ab_up (ab_up μ 7756 17 x) 7756 18 y)) (frL μ) x y := sorry
theorem tw_cant (h : tT μ T n k) : (ab_run wt (d + 2) 21 0 [(2, 7756)] [] μ) = some ((0, 0), ab_up (ab_up μ 7756 17 2) 7756 18 k.2.1) := sorry
theorem tw_adv (h : tT μ T n k) : (∀ k', lx T n k.2.2.1 = some k' → R0 (ab_run wt (d + 4) 174 0 [(2, 7756), (3, 0), (3, 0)] [] μ) (fun v μ' => v = 1 ∧ tT μ' T n k' ∧ k.2.2.1 ≤ k'.2.1 ∧ frL μ μ')) ∧ (lx T n k.2.2.1 = none → Ft (ab_run wt (d + 4) 174 0 [(2, 7756), (3, 0), (3, 0)] [] μ) (frL μ) 1 (lxB T n false k.2.2.1)) := sorry
theorem tw_want0 {c : Int} (h : tT μ T n k) (hc : c < 256) (z : ¬ isSg k c) : Ft (ab_run wt (d + 5) 322 0 [(2, 7756), (0, c)] [] μ) (frL μ) 2 k.2.1 := sorry
theorem tw_want1 {c : Int} (h : tT μ T n k) (hc : c < 256) (z : isSg k c) : (∀ k', lx T n k.2.2.1 = some k' → R0 (ab_run wt (d + 5) 322 0 [(2, 7756), (0, c)] [] μ) (fun v μ' => v = 1 ∧ tT μ' T n k' ∧ k.2.2.1 ≤ k'.2.1 ∧ frL μ μ')) ∧ (lx T n k.2.2.1 = none → Ft (ab_run wt (d + 5) 322 0 [(2, 7756), (0, c)] [] μ) (frL μ) 1 (lxB T n false k.2.2.1)) := sorry
theorem tw_noValue {x : Int} (h : tT μ T n k) : Ft (ab_run wt (d + 3) 177 0 [(2, 7756), (0, x), (3, 0)] [] μ) (frL μ) (nvF k).1 (nvF k).2 := sorry
end Tk
end
section
section Sv
variable {μ μ' μ'' : ab_M} {d : Nat} {T : Nat → Int} {n : Nat} {k : Tok} {S : SF} {N : NF} {m s : Nat}
def frS (m pM : Nat) (μ μ' : ab_M) : Prop := ∀ a i, a ≠ 7761 → (a ≠ 7756 ∨ (i < 7 ∨ 18 < i) ∧ i ≠ 163 ∧ i ≠ 164 ∧ i ≠ 165) → (a ≠ 7868 ∨ i ≠ m) → (a ≠ 7879 ∨ i < 9000 * m + pM ∨ 9000 * m + 9000 ≤ i) → μ' a i = μ a i
theorem frS.trans {pM : Nat} (h : frS m pM μ μ') (h' : frS m pM μ' μ'') : frS m pM μ μ'' := sorry
theorem frL.sc {pM : Nat} (h : frL μ μ') : frS m pM μ μ' := sorry
theorem tw_poolByte {p : Nat} {x : Int} (hm : m < 16) (hp : μ 7868 m = p) (h9 : p < 9000) : ∃ v, (ab_run wt (d + 1) 215 0 [(2, 7756), (0, m), (0, x)] [] μ) = some ((0, v), ab_up (ab_up μ 7879 (9000 * m + p) x) 7868 m ((p + 1 : Nat) : Int)) := sorry
theorem tw_rs108 {sz : Nat} (hm : m < 16) (hs : sz ≤ 60) : ∀ (l : List Int) (i p : Nat) (μ : ab_M), i + l.length = sz → μ 7756 16 = sz → tBy μ 7761 i l → μ 7868 m = p → p + l.length ≤ 9000 →
    R0 (ab_run wt (d + 2) 265 108 [(2, 7756), (3, 0), (3, 0), (3, 0), (3, 0), (0, m), (0, i)] [] μ) (fun v μ' => v = 1 ∧ μ' 7868 m = ((p + l.length : Nat) : Int) ∧ tBy μ' 7879 (9000 * m + p) l ∧ ∀ a j, (a ≠ 7868 ∨ j ≠ m) → (a ≠ 7879 ∨ j < 9000 * m + p ∨ 9000 * m + 9000 ≤ j) → μ' a j = μ a j) := sorry
theorem tT.to (h : tT μ T n k) (f : ∀ a i, a = 7760 ∨ a = 7761 ∨ a = 7756 ∧ i ≤ 17 → μ' a i = μ a i) : tT μ' T n k := sorry
def rdT (μ : ab_M) (m pM : Nat) (q : Int) (r : Int × List Int × Tok) (T : Nat → Int) (n : Nat) (v : Int) (μ' : ab_M) : Prop := v = 1 ∧ tT μ' T n r.2.2 ∧ μ' 7756 163 = r.1 ∧ μ' 7756 165 = r.2.1.length ∧ (∃ fi : Nat, μ' 7756 164 = fi ∧ fi + r.2.1.length ≤ pM + r.2.1.length ∧ tBy μ' 7879 (9000 * m + fi) r.2.1) ∧ μ' 7868 m = ((pM + r.2.1.length : Nat) : Int) ∧ frS m pM μ μ'
theorem tw_rs296 {q : Int} {p : Nat} {pM : Nat} (h : tT μ T n k) (hp : μ 7868 m = pM) (q1 : 0 ≤ q) (q2 : q ≤ 12) (x : Int) (h0 : μ 7756 164 = 0 ∧ μ 7756 165 = 0) :
    (k.1 ≠ 3 → Ft (ab_run wt (d + 3) 265 296 [(2, 7756), (0, q), (3, 0), (3, 0), (0, p), (0, x), (3, 0)] [] μ) (frS m pM μ) 2 k.2.1) ∧ (k.1 = 3 → (kFit q (if x = 0 then k.2.2.2.1 else -k.2.2.2.1) → R0 (ab_run wt (d + 3) 265 296 [(2, 7756), (0, q), (3, 0), (3, 0), (0, p), (0, x), (3, 0)] [] μ) (rdT μ m pM q (if x = 0 then k.2.2.2.1 else -k.2.2.2.1, [], k) T n)) ∧ (¬ kFit q (if x = 0 then k.2.2.2.1 else -k.2.2.2.1) → Ft (ab_run wt (d + 3) 265 296 [(2, 7756), (0, q), (3, 0), (3, 0), (0, p), (0, x), (3, 0)] [] μ) (frS m pM μ) 7 p)) := sorry
end Sv
end
section
section Sv
variable {μ μ' μ'' : ab_M} {d : Nat} {T : Nat → Int} {n : Nat} {k : Tok} {S : SF} {N : NF} {m s : Nat}
theorem Ft.to {x : ab_R} {P Q : ab_M → Prop} {f p : Int} (h : Ft x P f p) (g : ∀ μ', P μ' → Q μ') : Ft x Q f p := sorry
theorem ar61 : wt_ar 7761 = (1, 64) := sorry
theorem tw_readScalar {q x : Int} {t e pM : Nat} (h : tT μ T n k) (ts : TS μ s S N) (he : e < 73600) (hm : e / 4600 = m) (hp : μ 7868 m = pM) (h9 : pM + k.2.2.2.2.length ≤ 9000) (q1 : 0 ≤ q) (q2 : q ≤ 11) (ht : q = 11 → x = ((30 * s + t : Nat) : Int) ∧ (t : Int) < S 0 0 0 ∧ S 2 t 0 = 0) :
    (∀ f, rdS S N T n q t k = .inl f → Ft (ab_run wt (d + 7) 265 0 [(2, 7756), (0, q), (0, x), (0, e), (3, 0), (3, 0), (3, 0)] [] μ) (frS m pM μ) f.1 f.2) ∧ ∀ r, rdS S N T n q t k = .inr r → R0 (ab_run wt (d + 7) 265 0 [(2, 7756), (0, q), (0, x), (0, e), (3, 0), (3, 0), (3, 0)] [] μ) (rdT μ m pM q r T n) := sorry
end Sv
end
section
section Xs
abbrev He := Nat × (Nat → Nat) × (Nat → Nat → List It) × (Nat → List Un)
abbrev Fr := Nat × Nat × Nat × List Nat
abbrev Xs := Tok × He × List Fr
def cls (w : Nat) : Int := if w = 0 then 125 else if w = 1 then 93 else 62
def recs : List Fr → Nat
  | [] => 0
  | F :: K => if F.1 = 0 then recs K + 1 else recs K
noncomputable def xAdv (T : Nat → Int) (n : Nat) (k : Tok) : Flt ⊕ Tok := match lx T n k.2.2.1 with
  | none => .inl (1, (lxB T n false k.2.2.1 : Int))
  | some k' => .inr k'
noncomputable def xBeh (T : Nat → Int) (n : Nat) (K : List Fr) (k : Tok) : Flt ⊕ Tok := match K with
  | [] => .inr k
  | F :: _ => if isSg k (cls F.1) then .inr k else if isSg k 44 then (match xAdv T n k with
    | .inl f => .inl f
    | .inr k' => if isSg k' (cls F.1) then .inl (2, (k'.2.1 : Int)) else .inr k') else .inl (2, (k.2.1 : Int))
def kyE (k : Int) (key : Int × List Int) : Int × List Int := if k = 9 then (0, key.2) else (key.1, [])
noncomputable def dfB (S : SF) (N : NF) (t j : Nat) (v : Int) (l : List Int) : Bool := @decide (isPl S t j ∧ isDf S N t j v l) (Classical.propDecidable _)
noncomputable def hSet (S : SF) (N : NF) (h : He) (r j : Nat) (key : Int × List Int) (v : Int) (l : List Int) : He :=
  (h.1, h.2.1, (if S 11 (h.2.1 r) j = 3 then upV h.2.2.1 r j (kTk (S 14 (h.2.1 r) j) key.1 key.2 (h.2.2.1 r j) ++ ((kyE (S 14 (h.2.1 r) j) key).1, (kyE (S 14 (h.2.1 r) j) key).2, v, l, 0) :: kDp (S 14 (h.2.1 r) j) key.1 key.2 (h.2.2.1 r j))
    else if S 11 (h.2.1 r) j = 2 then upV h.2.2.1 r j (h.2.2.1 r j ++ [(0, [], v, l, 0)])
    else upV (lvO S (h.2.1 r) r j h.2.2.1) r j (if dfB S N (h.2.1 r) j v l = true then [] else [(0, [], v, l, 0)])), h.2.2.2)
noncomputable def hRec (S : SF) (h : He) (r j : Nat) (key : Int × List Int) : He :=
  (h.1 + 1, upT h.2.1 h.1 (S 13 (h.2.1 r) j).toNat, (if S 11 (h.2.1 r) j = 3 then upV (nwV h.2.2.1 h.1) r j (kTk (S 14 (h.2.1 r) j) key.1 key.2 (h.2.2.1 r j) ++ ((kyE (S 14 (h.2.1 r) j) key).1, (kyE (S 14 (h.2.1 r) j) key).2, 0, [], h.1) :: kDp (S 14 (h.2.1 r) j) key.1 key.2 (h.2.2.1 r j))
    else if S 11 (h.2.1 r) j = 2 then upV (nwV h.2.2.1 h.1) r j (h.2.2.1 r j ++ [itR h.1])
    else upV (nwV (lvO S (h.2.1 r) r j h.2.2.1) h.1) r j [itR h.1]), nwU h.2.2.2 h.1)
noncomputable def xVal (S : SF) (N : NF) (T : Nat → Int) (n bd : Nat) (h : He) (K : List Fr) (r j : Nat) (key : Int × List Int) (k : Tok) : Flt ⊕ Xs :=
  if S 12 (h.2.1 r) j = 12 then
    if isSg k 123 then
      if 12 < bd + recs K + 1 then .inl (3, (k.2.1 : Int)) else match xAdv T n k with
        | .inl f => .inl f
        | .inr k' => .inr (k', hRec S h r j key, (0, h.1, 0, []) :: K)
    else .inl (nvF k)
  else match rdS S N T n (S 12 (h.2.1 r) j) (S 13 (h.2.1 r) j).toNat k with
    | .inl f => .inl f
    | .inr q => match xAdv T n q.2.2 with
      | .inl f => .inl f
      | .inr k2 => match xBeh T n K k2 with
        | .inl f => .inl f
        | .inr k3 => .inr (k3, hSet S N h r j key q.1 q.2.1, K)
abbrev agn (S : SF) (t j : Nat) (told : List Nat) : Prop := j ∈ told ∨ 0 ≤ S 15 t j ∧ ∃ g ∈ told, S 15 t g = S 15 t j
noncomputable def agB (S : SF) (t j : Nat) (told : List Nat) : Bool := @decide (agn S t j told) (Classical.propDecidable _)
noncomputable def xPart (S : SF) (N : NF) (T : Nat → Int) (n bd : Nat) (h : He) (F : Fr) (K : List Fr) (k : Tok) : Flt ⊕ Xs :=
  if k.1 = 1 then
    if nFd (N 1 (h.2.1 F.2.1)) (tkN T k) (fCt S (h.2.1 F.2.1)) 0 < 0 then .inl (5, (k.2.1 : Int))
    else if agB S (h.2.1 F.2.1) (nFd (N 1 (h.2.1 F.2.1)) (tkN T k) (fCt S (h.2.1 F.2.1)) 0).toNat F.2.2.2 = true then .inl (4, (k.2.1 : Int))
    else match xAdv T n k with
      | .inl f => .inl f
      | .inr k1 => if isSg k1 58 then (match xAdv T n k1 with
        | .inl f => .inl f
        | .inr k2 =>
          if S 11 (h.2.1 F.2.1) (nFd (N 1 (h.2.1 F.2.1)) (tkN T k) (fCt S (h.2.1 F.2.1)) 0).toNat = 2 ∨ S 11 (h.2.1 F.2.1) (nFd (N 1 (h.2.1 F.2.1)) (tkN T k) (fCt S (h.2.1 F.2.1)) 0).toNat = 3 then
            if isSg k2 (if S 11 (h.2.1 F.2.1) (nFd (N 1 (h.2.1 F.2.1)) (tkN T k) (fCt S (h.2.1 F.2.1)) 0).toNat = 2 then 91 else 60) then (match xAdv T n k2 with
              | .inl f => .inl f
              | .inr k3 => .inr (k3, h, ((S 11 (h.2.1 F.2.1) (nFd (N 1 (h.2.1 F.2.1)) (tkN T k) (fCt S (h.2.1 F.2.1)) 0).toNat).toNat - 1, F.2.1, (nFd (N 1 (h.2.1 F.2.1)) (tkN T k) (fCt S (h.2.1 F.2.1)) 0).toNat, []) :: (0, F.2.1, 0, (nFd (N 1 (h.2.1 F.2.1)) (tkN T k) (fCt S (h.2.1 F.2.1)) 0).toNat :: F.2.2.2) :: K))
            else .inl (nvF k2)
          else xVal S N T n bd h ((0, F.2.1, 0, (nFd (N 1 (h.2.1 F.2.1)) (tkN T k) (fCt S (h.2.1 F.2.1)) 0).toNat :: F.2.2.2) :: K) F.2.1 (nFd (N 1 (h.2.1 F.2.1)) (tkN T k) (fCt S (h.2.1 F.2.1)) 0).toNat (0, []) k2)
        else .inl (2, (k1.2.1 : Int))
  else .inl (2, (k.2.1 : Int))
noncomputable def kyB (k : Int) (key : Int × List Int) (L : List It) : Bool := match kDp k key.1 key.2 L with
  | [] => false
  | t :: _ => decide (kyC k t key.1 key.2 = 0)
noncomputable def xItem (S : SF) (N : NF) (T : Nat → Int) (n bd : Nat) (h : He) (F : Fr) (K : List Fr) (k : Tok) : Flt ⊕ Xs :=
  match rdS S N T n (S 14 (h.2.1 F.2.1) F.2.2.1) 0 k with
  | .inl f => .inl f
  | .inr q => if kyB (S 14 (h.2.1 F.2.1) F.2.2.1) (q.1, q.2.1) (h.2.2.1 F.2.1 F.2.2.1) = true then .inl (4, (k.2.1 : Int)) else match xAdv T n q.2.2 with
    | .inl f => .inl f
    | .inr k1 => if isSg k1 58 then (match xAdv T n k1 with
      | .inl f => .inl f
      | .inr k2 => xVal S N T n bd h (F :: K) F.2.1 F.2.2.1 (q.1, q.2.1) k2) else .inl (2, (k1.2.1 : Int))
noncomputable def xStep (S : SF) (N : NF) (T : Nat → Int) (n bd : Nat) (X : Xs) : Flt ⊕ Xs := match X.2.2 with
  | [] => .inr X
  | F :: K =>
    if isSg X.1 (cls F.1) then (match xAdv T n X.1 with
      | .inl f => .inl f
      | .inr k' => match xBeh T n K k' with
        | .inl f => .inl f
        | .inr k2 => .inr (k2, X.2.1, K))
    else if F.1 = 0 then xPart S N T n bd X.2.1 F K X.1
    else if F.1 = 1 then xVal S N T n bd X.2.1 (F :: K) F.2.1 F.2.2.1 (0, []) X.1
    else xItem S N T n bd X.2.1 F K X.1
end Xs
end
section
section Xt
variable {μ μ' μ'' : ab_M} {d : Nat} {T : Nat → Int} {n : Nat} {k : Tok} {S : SF} {N : NF} {m s : Nat} {nr : Nat} {al : Nat → Bool} {ty : Nat → Nat} {V : Nat → Nat → List It} {U : Nat → List Un} {ε : Nat → Nat} {uM pM r j : Nat}
theorem tw_recordOf (h : TM S μ m s nr al ty V U ε uM pM) (ts : TS μ s S N) (hr : r < nr) (ha : al r = true) (nz : m = 13 → r = 0 → ∀ x, al x = true) : (ab_run wt (d + 3) 270 0 [(2, 7756), (0, (ε r))] [] μ) = some ((0, ((30 * s + ty r : Nat) : Int)), μ) := sorry
def stk (μ : ab_M) (s : Nat) (ty ε : Nat → Nat) : List Fr → Prop
  | [] => True
  | F :: K => (μ 7883 K.length = F.1 ∧ μ 7881 K.length = ε F.2.1 ∧ (F.1 ≠ 0 → μ 7882 K.length = fX s (ty F.2.1) F.2.2.1) ∧ (F.1 = 0 → ∀ j, j < 24 → μ 7884 (24 * recs K + j) = if j ∈ F.2.2.2 then 1 else 0)) ∧ stk μ s ty ε K
def stC (μ : ab_M) (s : Nat) (ty ε : Nat → Nat) (K : List Fr) : Prop := μ 7756 158 = K.length ∧ μ 7756 160 = recs K ∧ stk μ s ty ε K
theorem stk.to {ty' ε' : Nat → Nat} : ∀ {K : List Fr}, stk μ s ty ε K → (∀ i, i < K.length → μ' 7883 i = μ 7883 i ∧ μ' 7881 i = μ 7881 i ∧ μ' 7882 i = μ 7882 i) → (∀ i, i < 24 * recs K → μ' 7884 i = μ 7884 i) → (∀ F ∈ K, ε' F.2.1 = ε F.2.1 ∧ ty' F.2.1 = ty F.2.1) → stk μ' s ty' ε' K := sorry
theorem recs_le : ∀ K : List Fr, recs K ≤ K.length := sorry
def frO (μ μ' : ab_M) : Prop := ∀ a i, a ≠ 7883 → a ≠ 7881 → a ≠ 7882 → a ≠ 7884 → (a ≠ 7756 ∨ i ≠ 158 ∧ i ≠ 160) → μ' a i = μ a i
theorem tw_open47 {R : Nat} (hR : R < 60) : ∀ (c i : Nat) (μ : ab_M), i + c = 24 → μ 7756 160 = R →
    R0 (ab_run wt (d + 1) 185 47 [(2, 7756), (3, 0), (3, 0), (3, 0), (0, i)] [] μ) (fun v μ' => v = 1 ∧ μ' 7756 160 = ((R + 1 : Nat) : Int) ∧ (∀ j, i ≤ j → j < 24 → μ' 7884 (24 * R + j) = 0) ∧ ∀ a q, (a ≠ 7884 ∨ q < 24 * R + i) → (a ≠ 7756 ∨ q ≠ 160) → μ' a q = μ a q) := sorry
theorem tw_open {w rr f : Nat} {K : List Fr} {g : Int} (h : stC μ s ty ε K) (hK : K.length < 60) (hw : w ≤ 2) (hg : w ≠ 0 → g = fX s (ty rr) f) : R0 (ab_run wt (d + 1) 185 0 [(2, 7756), (0, w), (0, (ε rr)), (0, g), (3, 0)] [] μ) (fun v μ' => v = 1 ∧ stC μ' s ty ε ((w, rr, f, []) :: K) ∧ frO μ μ') := sorry
theorem tw_behind {F : Fr} {K : List Fr} (h : tT μ T n k) (hs : stC μ s ty ε (F :: K)) (hK : K.length < 60) (hw : F.1 ≤ 2) : (∀ f, xBeh T n (F :: K) k = .inl f → Ft (ab_run wt (d + 5) 10 0 [(2, 7756), (3, 0), (3, 0)] [] μ) (frL μ) f.1 f.2) ∧ ∀ k', xBeh T n (F :: K) k = .inr k' → R0 (ab_run wt (d + 5) 10 0 [(2, 7756), (3, 0), (3, 0)] [] μ) (fun v μ' => v = 1 ∧ tT μ' T n k' ∧ k.2.1 ≤ k'.2.1 ∧ frL μ μ') := sorry
end Xt
end
section
section Xt
variable {μ μ' μ'' : ab_M} {d : Nat} {T : Nat → Int} {n : Nat} {k : Tok} {S : SF} {N : NF} {m s bd : Nat} {h h' : He} {K K' : List Fr} {al : Nat → Bool} {ε : Nat → Nat} {uM pM r j : Nat}
def frZ (m : Nat) (μ μ' : ab_M) : Prop := ∀ a i, ¬ mine m a i → a ≠ 7761 → a ≠ 7883 → a ≠ 7881 → a ≠ 7882 → a ≠ 7884 → (a ≠ 7756 ∨ (i < 7 ∨ 18 < i) ∧ (i < 154 ∨ 167 < i)) → μ' a i = μ a i
theorem frZ.refl : frZ m μ μ := sorry
theorem frZ.trans (f : frZ m μ μ') (g : frZ m μ' μ'') : frZ m μ μ'' := sorry
theorem frL.z (f : frL μ μ') : frZ m μ μ' := sorry
theorem frH.z (f : frH m μ μ') : frZ m μ μ' := sorry
theorem frO.z (f : frO μ μ') : frZ m μ μ' := sorry
theorem frS.z (hp : pM ≤ 9000) (f : frS m pM μ μ') : frZ m μ μ' := sorry
theorem TM.mv {nr : Nat} {ty : Nat → Nat} {V : Nat → Nat → List It} {U : Nat → List Un} {pM' : Nat} (t : TM S μ m s nr al ty V U ε uM pM) (f : ∀ a, 7863 ≤ a → a ≤ 7878 → a ≠ 7868 → ∀ i, μ' a i = μ a i) (fp : ∀ i, 9000 * m ≤ i → i < 9000 * m + pM → μ' 7879 i = μ 7879 i) (hp : μ' 7868 m = pM') (h1 : pM ≤ pM') (h2 : pM' ≤ 9000) : TM S μ' m s nr al ty V U ε uM pM' := sorry
theorem TM.pm {nr : Nat} {ty : Nat → Nat} {V : Nat → Nat → List It} {U : Nat → List Un} (t : TM S μ m s nr al ty V U ε uM pM) : μ 7868 m = pM ∧ pM ≤ 9000 ∧ μ 7867 m = uM ∧ uM ≤ 4600 ∧ m < 16 ∧ 0 < nr ∧ al 0 = true := sorry
theorem TC.mv {nr : Nat} {ty : Nat → Nat} {V : Nat → Nat → List It} {U : Nat → List Un} (t : TC S μ m nr al ty V U) (f1 : μ' 7865 m = μ 7865 m) (f2 : μ' 7866 m = μ 7866 m) : TC S μ' m nr al ty V U := sorry
theorem TS.mv (t : TS μ s S N) (f : ∀ a, 7762 ≤ a → a ≤ 7861 → ∀ i, μ' a i = μ a i) : TS μ' s S N := sorry
theorem stC.mv {ty : Nat → Nat} (t : stC μ s ty ε K) (f : ∀ a, 7881 ≤ a → a ≤ 7884 → ∀ i, μ' a i = μ a i) (f1 : μ' 7756 158 = μ 7756 158) (f2 : μ' 7756 160 = μ 7756 160) : stC μ' s ty ε K := sorry
def hI (S : SF) (h : He) : Prop := ∀ r j, r < h.1 → j < fCt S (h.2.1 r) → (S 11 (h.2.1 r) j < 2 → (h.2.2.1 r j).length ≤ 1) ∧ ∀ t ∈ h.2.2.1 r j, (S 11 (h.2.1 r) j ≠ 3 → t.1 = 0 ∧ t.2.1 = []) ∧ byt t.2.1 ∧ lng t.1
def TX (S : SF) (N : NF) (T : Nat → Int) (n m s bd : Nat) (μ : ab_M) (h : He) (K : List Fr) (al : Nat → Bool) (ε : Nat → Nat) (uM pM : Nat) : Prop :=
  TS μ s S N ∧ TM S μ m s h.1 al h.2.1 h.2.2.1 h.2.2.2 ε uM pM ∧ TC S μ m h.1 al h.2.1 h.2.2.1 h.2.2.2 ∧ stC μ s h.2.1 ε K ∧ μ 7756 168 = bd ∧ hI S h ∧ (∀ F ∈ K, F.1 ≤ 2 ∧ F.2.1 < h.1 ∧ al F.2.1 = true) ∧ noOr S h.1 al h.2.1 h.2.2.1 (fun _ => False)
theorem TX.mv {pM' : Nat} (x : TX S N T n m s bd μ h K al ε uM pM) (f : frZ m μ μ') (g : ∀ a, 7865 ≤ a → a ≤ 7878 → a ≠ 7868 → ∀ i, μ' a i = μ a i) (fd : ∀ a, 7881 ≤ a → a ≤ 7884 → ∀ i, μ' a i = μ a i) (f1 : μ' 7756 158 = μ 7756 158) (f2 : μ' 7756 160 = μ 7756 160) (fp : ∀ i, 9000 * m ≤ i → i < 9000 * m + pM → μ' 7879 i = μ 7879 i) (hp : μ' 7868 m = pM') (h1 : pM ≤ pM') (h2 : pM' ≤ 9000) : TX S N T n m s bd μ' h K al ε uM pM' := sorry
theorem TX.fl (x : TX S N T n m s bd μ h K al ε uM pM) (f : frL μ μ') : TX S N T n m s bd μ' h K al ε uM pM := sorry
end Xt
end
section
section Sv
variable {T : Nat → Int} {n : Nat} {k : Tok} {S : SF} {N : NF}
theorem rdS_ok {q : Int} {t : Nat} {r : Int × List Int × Tok} (hT : ∀ k, k < n → 0 ≤ T k ∧ T k < 256) (ok : scOK S N) (hk : tkO T n k) (ht : q = 11 → (t : Int) < S 0 0 0 ∧ S 2 t 0 = 0) (h : rdS S N T n q t k = .inr r) :
    tkO T n r.2.2 ∧ k.2.1 ≤ r.2.2.2.1 ∧ r.2.2.1 ≠ 0 ∧ r.2.1.length + k.2.1 ≤ r.2.2.2.2.1 ∧ byt r.2.1 ∧ lng r.1 ∧ r.2.1.length ≤ 60 ∧ (q ≠ 9 ∧ q ≠ 10 → r.2.1 = []) ∧ (q = 9 ∨ q = 10 → r.1 = 0 ∧ r.2.1 = k.2.2.2.2) := sorry
end Sv
end
section
section Xt
variable {μ μ' μ'' : ab_M} {d : Nat} {T : Nat → Int} {n : Nat} {k : Tok} {S : SF} {N : NF} {m s bd : Nat} {h h' : He} {K K' : List Fr} {al : Nat → Bool} {ε : Nat → Nat} {uM pM r j : Nat}
noncomputable def xEnd (T : Nat → Int) (n : Nat) (K : List Fr) (k : Tok) : Flt ⊕ Tok := match xAdv T n k with
  | .inl f => .inl f
  | .inr k2 => xBeh T n K k2
theorem tw_val266 {ty : Nat → Nat} (ht : tT μ T n k) (hs : stC μ s ty ε K) (hK : K.length < 60) (hw : ∀ F ∈ K, F.1 ≤ 2) : (∀ f, xEnd T n K k = .inl f → Ft (ab_run wt (d + 6) 268 266 [(2, 7756), (3, 0), (3, 0), (3, 0), (3, 0), (3, 0), (3, 0)] [] μ) (frL μ) f.1 f.2) ∧ ∀ k', xEnd T n K k = .inr k' → R0 (ab_run wt (d + 6) 268 266 [(2, 7756), (3, 0), (3, 0), (3, 0), (3, 0), (3, 0), (3, 0)] [] μ) (fun v μ' => v = 1 ∧ tT μ' T n k' ∧ k.2.2.1 ≤ k'.2.1 ∧ frL μ μ') := sorry
theorem lvO_cases {t : Nat} {V : Nat → Nat → List It} (a c : Nat) : lvO S t r j V a c = [] ∨ lvO S t r j V a c = V a c := sorry
theorem hI.up {l : List It} {V' : Nat → Nat → List It} (x : hI S h) (hV : ∀ a c, V' a c = [] ∨ V' a c = h.2.2.1 a c) (hl : S 11 (h.2.1 r) j < 2 → l.length ≤ 1) (ht : ∀ t ∈ l, (S 11 (h.2.1 r) j ≠ 3 → t.1 = 0 ∧ t.2.1 = []) ∧ byt t.2.1 ∧ lng t.1) : hI S (h.1, h.2.1, upV V' r j l, h.2.2.2) := sorry
theorem tw_put {v : Int} {fi : Nat} {l : List Int} (x : TX S N T n m s bd μ h K al ε uM pM) (hr : r < h.1) (ha : al r = true) (hj : j < fCt S (h.2.1 r)) (h12 : S 12 (h.2.1 r) j ≠ 12) (h3 : S 11 (h.2.1 r) j ≠ 3) (hF : ∀ F ∈ K, F.2.1 ≤ r) (hu : uM < 4600) (hl : fi + l.length ≤ pM) (hb : tBy μ 7879 (9000 * m + fi) l) :
    (S 11 (h.2.1 r) j = 2 → R0 (ab_run wt (d + 6) 0 0 [(2, 7756), (0, (ε r)), (0, (fX s (h.2.1 r) j)), (1, v), (3, 0), (0, fi), (0, (l.length)), (3, 0)] [] μ) (fun _ μ' => ∃ al' uM', uM' ≤ uM + 1 ∧ TX S N T n m s bd μ' (hSet S N h r j (0, []) v l) K al' ε uM' pM ∧ frH m μ μ')) ∧
    (S 11 (h.2.1 r) j ≠ 2 → R3 (ab_run wt (d + 6) 284 0 [(2, 7756), (0, (ε r)), (0, (fX s (h.2.1 r) j)), (1, v), (3, 0), (0, fi), (0, (l.length)), (3, 0), (3, 0), (3, 0)] [] μ) (fun μ' => ∃ al' uM', uM' ≤ uM + 1 ∧ TX S N T n m s bd μ' (hSet S N h r j (0, []) v l) K al' ε uM' pM ∧ frH m μ μ')) := sorry
end Xt
end
section
section Xt
variable {μ μ' μ'' : ab_M} {d : Nat} {T : Nat → Int} {n : Nat} {k : Tok} {S : SF} {N : NF} {m s bd : Nat} {h h' : He} {K K' : List Fr} {al : Nat → Bool} {ε : Nat → Nat} {uM pM r j : Nat}
def TXe (S : SF) (N : NF) (T : Nat → Int) (n m s bd : Nat) (μ : ab_M) (p : Nat) (X : Xs) (v : Int) (μ' : ab_M) : Prop := v = 1 ∧ tT μ' T n X.1 ∧ (∃ al' ε' uM' pM', TX S N T n m s bd μ' X.2.1 X.2.2 al' ε' uM' pM' ∧ uM' ≤ 450 + X.1.2.1 ∧ pM' ≤ 2100 + X.1.2.1) ∧ p < X.1.2.1 ∧ frZ m μ μ'
theorem stC.up {ty ty' : Nat → Nat} {ε' : Nat → Nat} (t : stC μ s ty ε K) (f : ∀ a, 7881 ≤ a → a ≤ 7884 → ∀ i, μ' a i = μ a i) (f1 : μ' 7756 158 = μ 7756 158) (f2 : μ' 7756 160 = μ 7756 160) (e : ∀ F ∈ K, ε' F.2.1 = ε F.2.1 ∧ ty' F.2.1 = ty F.2.1) : stC μ' s ty' ε' K := sorry
theorem hI.new {t : Nat} {l : List It} {V' : Nat → Nat → List It} (x : hI S h) (hr : r < h.1) (hV : ∀ a c, V' a c = [] ∨ V' a c = h.2.2.1 a c) (hl : S 11 (h.2.1 r) j < 2 → l.length ≤ 1) (ht : ∀ q ∈ l, (S 11 (h.2.1 r) j ≠ 3 → q.1 = 0 ∧ q.2.1 = []) ∧ byt q.2.1 ∧ lng q.1) : hI S (h.1 + 1, upT h.2.1 h.1 t, upV (nwV V' h.1) r j l, nwU h.2.2.2 h.1) := sorry
theorem tw_val96 {h0 : He} {c e : Nat} (x : TX S N T n m s bd μ h0 K al ε uM pM) (ht : tT μ T n k) (he : ε c = e) (hc : c < h0.1) (hca : al c = true) (hK : K.length < 59) (hb : bd ≤ 12) :
    (12 < bd + recs K + 1 → Ft (ab_run wt (d + 6) 268 96 [(2, 7756), (3, 0), (3, 0), (3, 0), (3, 0), (0, (k.2.1)), (0, e)] [] μ) (frZ m μ) 3 k.2.1) ∧ (¬ 12 < bd + recs K + 1 → (∀ f, xAdv T n k = .inl f → Ft (ab_run wt (d + 6) 268 96 [(2, 7756), (3, 0), (3, 0), (3, 0), (3, 0), (0, (k.2.1)), (0, e)] [] μ) (frZ m μ) f.1 f.2) ∧ ∀ k', xAdv T n k = .inr k' → R0 (ab_run wt (d + 6) 268 96 [(2, 7756), (3, 0), (3, 0), (3, 0), (3, 0), (0, (k.2.1)), (0, e)] [] μ) (fun v μ' => v = 1 ∧ tT μ' T n k' ∧ TX S N T n m s bd μ' h0 ((0, c, 0, []) :: K) al ε uM pM ∧ k.2.2.1 ≤ k'.2.1 ∧ frZ m μ μ')) := sorry
theorem tw_rec {t' : Nat} (x : TX S N T n m s bd μ h K al ε uM pM) (hr : r < h.1) (ha : al r = true) (hj : j < fCt S (h.2.1 r)) (h12 : S 12 (h.2.1 r) j = 12) (h13 : S 13 (h.2.1 r) j = t') (h3 : S 11 (h.2.1 r) j ≠ 3) (hF : ∀ F ∈ K, F.2.1 ≤ r) (hu : uM < 4600) (hv : S 11 (h.2.1 r) j < 2 → h.2.2.1 r j = []) :
    (S 11 (h.2.1 r) j = 2 → (ab_run wt (d + 7) 171 0 [(2, 7756), (0, m), (0, (fX s (h.2.1 r) j)), (3, 0)] [] μ) = some ((0, ((4600 * m + uM : Nat) : Int)), neM μ m (fX s (h.2.1 r) j) (4600 * m + uM)) ∧ R3 (ab_run wt (d + 7) 226 0 [(2, 7756), (0, (ε r)), (0, (((4600 * m + uM : Nat) : Int))), (3, 0), (3, 0), (3, 0), (3, 0), (3, 0)] [] (neM μ m (fX s (h.2.1 r) j) (4600 * m + uM))) (fun μ' => ∃ al', al' h.1 = true ∧ TX S N T n m s bd μ' (hRec S h r j (0, [])) K al' (upL ε h.1 (4600 * m + uM)) (uM + 1) pM ∧ frK m μ μ')) ∧
    (S 11 (h.2.1 r) j ≠ 2 → R0 (ab_run wt (d + 7) 46 0 [(2, 7756), (0, (ε r)), (0, (fX s (h.2.1 r) j)), (3, 0)] [] μ) (fun v μ' => v = ((4600 * m + uM : Nat) : Int) ∧ ∃ al', al' h.1 = true ∧ TX S N T n m s bd μ' (hRec S h r j (0, [])) K al' (upL ε h.1 (4600 * m + uM)) (uM + 1) pM ∧ frK m μ μ')) := sorry
end Xt
end
section
section Xt
variable {μ μ' μ'' : ab_M} {d : Nat} {T : Nat → Int} {n : Nat} {k : Tok} {S : SF} {N : NF} {m s bd : Nat} {h h' : He} {K K' : List Fr} {al : Nat → Bool} {ε : Nat → Nat} {uM pM r j : Nat}
theorem TX.rd {pM' : Nat} (x : TX S N T n m s bd μ h K al ε uM pM) (f : frS m pM μ μ') (hp : μ' 7868 m = pM') (h1 : pM ≤ pM') (h2 : pM' ≤ 9000) : TX S N T n m s bd μ' h K al ε uM pM' := sorry
theorem xVal_s {key : Int × List Int} (z : S 12 (h.2.1 r) j ≠ 12) : xVal S N T n bd h K r j key k = match rdS S N T n (S 12 (h.2.1 r) j) (S 13 (h.2.1 r) j).toNat k with
    | .inl f => .inl f
    | .inr q => match xEnd T n K q.2.2 with
      | .inl f => .inl f
      | .inr k3 => .inr (k3, hSet S N h r j key q.1 q.2.1, K) := sorry
theorem tw_valueS (x : TX S N T n m s bd μ h K al ε uM pM) (ht : tT μ T n k) (hr : r < h.1) (ha : al r = true) (hj : j < fCt S (h.2.1 r)) (h12 : S 12 (h.2.1 r) j ≠ 12) (h3 : S 11 (h.2.1 r) j ≠ 3) (hF : ∀ F ∈ K, F.2.1 ≤ r) (hK : K.length < 59) (hu : uM ≤ 450 + k.2.1) (hp : pM ≤ 2100 + k.2.1) :
    (∀ f, xVal S N T n bd h K r j (0, []) k = .inl f → Ft (ab_run wt (d + 9) 268 0 [(2, 7756), (0, (ε r)), (0, (fX s (h.2.1 r) j)), (0, (-2)), (3, 0), (3, 0), (3, 0)] [] μ) (frZ m μ) f.1 f.2) ∧ ∀ X', xVal S N T n bd h K r j (0, []) k = .inr X' → R0 (ab_run wt (d + 9) 268 0 [(2, 7756), (0, (ε r)), (0, (fX s (h.2.1 r) j)), (0, (-2)), (3, 0), (3, 0), (3, 0)] [] μ) (TXe S N T n m s bd μ k.2.1 X') := sorry
end Xt
end
section
section Xt
variable {μ μ' μ'' : ab_M} {d : Nat} {T : Nat → Int} {n : Nat} {k : Tok} {S : SF} {N : NF} {m s bd : Nat} {h h' : He} {K K' : List Fr} {al : Nat → Bool} {ε : Nat → Nat} {uM pM r j : Nat}
theorem tw_valueR (x : TX S N T n m s bd μ h K al ε uM pM) (ht : tT μ T n k) (hr : r < h.1) (ha : al r = true) (hj : j < fCt S (h.2.1 r)) (h12 : S 12 (h.2.1 r) j = 12) (h3 : S 11 (h.2.1 r) j ≠ 3) (hF : ∀ F ∈ K, F.2.1 ≤ r) (hK : K.length < 59) (hb : bd ≤ 12) (hv : S 11 (h.2.1 r) j < 2 → h.2.2.1 r j = []) (hu : uM ≤ 450 + k.2.1) (hp : pM ≤ 2100 + k.2.1) :
    (∀ f, xVal S N T n bd h K r j (0, []) k = .inl f → Ft (ab_run wt (d + 9) 268 0 [(2, 7756), (0, (ε r)), (0, (fX s (h.2.1 r) j)), (0, (-2)), (3, 0), (3, 0), (3, 0)] [] μ) (frZ m μ) f.1 f.2) ∧ ∀ X', xVal S N T n bd h K r j (0, []) k = .inr X' → R0 (ab_run wt (d + 9) 268 0 [(2, 7756), (0, (ε r)), (0, (fX s (h.2.1 r) j)), (0, (-2)), (3, 0), (3, 0), (3, 0)] [] μ) (TXe S N T n m s bd μ k.2.1 X') := sorry
theorem tw_value (x : TX S N T n m s bd μ h K al ε uM pM) (ht : tT μ T n k) (hr : r < h.1) (ha : al r = true) (hj : j < fCt S (h.2.1 r)) (h3 : S 11 (h.2.1 r) j ≠ 3) (hF : ∀ F ∈ K, F.2.1 ≤ r) (hK : K.length < 59) (hb : bd ≤ 12) (hv : S 11 (h.2.1 r) j < 2 → h.2.2.1 r j = []) (hu : uM ≤ 450 + k.2.1) (hp : pM ≤ 2100 + k.2.1) :
    (∀ f, xVal S N T n bd h K r j (0, []) k = .inl f → Ft (ab_run wt (d + 9) 268 0 [(2, 7756), (0, (ε r)), (0, (fX s (h.2.1 r) j)), (0, (-2)), (3, 0), (3, 0), (3, 0)] [] μ) (frZ m μ) f.1 f.2) ∧ ∀ X', xVal S N T n bd h K r j (0, []) k = .inr X' → R0 (ab_run wt (d + 9) 268 0 [(2, 7756), (0, (ε r)), (0, (fX s (h.2.1 r) j)), (0, (-2)), (3, 0), (3, 0), (3, 0)] [] μ) (TXe S N T n m s bd μ k.2.1 X') := sorry
end Xt
end
section
section Xt
variable {μ μ' μ'' : ab_M} {d : Nat} {S : SF} {N : NF} {s : Nat}
def agL (S : SF) (t j : Nat) (told : List Nat) : Nat → Nat → Bool
  | 0, _ => false
  | c + 1, i => decide (i ∈ told ∧ S 15 t i = S 15 t j) || agL S t j told c (i + 1)
theorem agL_iff {t j : Nat} {told : List Nat} : ∀ c i, agL S t j told c i = true ↔ ∃ g ∈ told, i ≤ g ∧ g < i + c ∧ S 15 t g = S 15 t j := sorry
theorem tw_ag88 {t j R : Nat} {rr : Int} {told : List Nat} (ts : TS μ s S N) (ht : (t : Int) < S 0 0 0 ∧ S 2 t 0 = 1) (hj : j < fCt S t) (h15 : 0 ≤ S 15 t j) (hR : R < 60) (hr : μ 7756 160 = ((R + 1 : Nat) : Int)) (htd : ∀ g, g < 24 → μ 7884 (24 * R + g) = if g ∈ told then 1 else 0) : ∀ (c i : Nat) (x5 : Int), i + c = fCt S t → (x5 = 0 ∨ x5 = 1) →
    (ab_run wt (d + 1) 260 88 [(2, 7756), (0, rr), (0, (((30 * s + t : Nat) : Int))), (0, j), (0, (fX s t j)), (0, x5), (0, i)] [] μ) = (ab_run wt (d + 1) 260 169 [(2, 7756), (0, rr), (3, 0), (0, j), (0, (fX s t j)), (0, ((if x5 = 1 ∨ agL S t j told c i = true then 1 else 0))), (3, 0)] [] μ) := sorry
end Xt
end
section
section Xt
variable {μ μ' μ'' : ab_M} {d : Nat} {T : Nat → Int} {n : Nat} {k : Tok} {S : SF} {N : NF} {m s bd : Nat} {h h' : He} {K K' : List Fr} {al : Nat → Bool} {ε : Nat → Nat} {uM pM r j : Nat}
theorem tw_advX (h : tT μ T n k) : (∀ f, xAdv T n k = .inl f → Ft (ab_run wt (d + 4) 174 0 [(2, 7756), (3, 0), (3, 0)] [] μ) (frL μ) f.1 f.2) ∧ ∀ k', xAdv T n k = .inr k' → R0 (ab_run wt (d + 4) 174 0 [(2, 7756), (3, 0), (3, 0)] [] μ) (fun v μ' => v = 1 ∧ tT μ' T n k' ∧ k.2.2.1 ≤ k'.2.1 ∧ frL μ μ') := sorry
noncomputable def xWnt (T : Nat → Int) (n : Nat) (c : Int) (k : Tok) : Flt ⊕ Tok := if isSg k c then xAdv T n k else .inl (2, (k.2.1 : Int))
theorem tw_wantX {c : Int} (h : tT μ T n k) (hc : c < 256) : (∀ f, xWnt T n c k = .inl f → Ft (ab_run wt (d + 5) 322 0 [(2, 7756), (0, c)] [] μ) (frL μ) f.1 f.2) ∧ ∀ k', xWnt T n c k = .inr k' → R0 (ab_run wt (d + 5) 322 0 [(2, 7756), (0, c)] [] μ) (fun v μ' => v = 1 ∧ tT μ' T n k' ∧ k.2.2.1 ≤ k'.2.1 ∧ frL μ μ') := sorry
theorem TX.tell {f0 : Nat} {told : List Nat} (x : TX S N T n m s bd μ h ((0, r, f0, told) :: K) al ε uM pM) (hj : j < 24) : TX S N T n m s bd (ab_up μ 7884 (24 * recs K + j) 1) h ((0, r, 0, j :: told) :: K) al ε uM pM := sorry
theorem TX.opn {w c f : Nat} (x : TX S N T n m s bd μ h K al ε uM pM) (e3 : stC μ' s h.2.1 ε ((w, c, f, []) :: K)) (e4 : frO μ μ') (hw : w ≤ 2) (hc : c < h.1) (hca : al c = true) : TX S N T n m s bd μ' h ((w, c, f, []) :: K) al ε uM pM := sorry
noncomputable def xOpn (S : SF) (N : NF) (T : Nat → Int) (n bd : Nat) (h : He) (K : List Fr) (r j : Nat) (k2 : Tok) : Flt ⊕ Xs :=
  if S 11 (h.2.1 r) j = 2 ∨ S 11 (h.2.1 r) j = 3 then
    if isSg k2 (if S 11 (h.2.1 r) j = 2 then 91 else 60) then (match xAdv T n k2 with
      | .inl f => .inl f
      | .inr k3 => .inr (k3, h, ((S 11 (h.2.1 r) j).toNat - 1, r, j, []) :: K))
    else .inl (nvF k2)
  else xVal S N T n bd h K r j (0, []) k2
noncomputable def xPt (S : SF) (N : NF) (T : Nat → Int) (n bd : Nat) (h : He) (K : List Fr) (r j : Nat) (k : Tok) : Flt ⊕ Xs :=
  match xAdv T n k with
      | .inl f => .inl f
      | .inr k1 => match xWnt T n 58 k1 with
        | .inl f => .inl f
        | .inr k2 => xOpn S N T n bd h K r j k2
theorem xPart_eq {f0 : Nat} {told : List Nat} : xPart S N T n bd h (0, r, f0, told) K k = if k.1 = 1 then
    if nFd (N 1 (h.2.1 r)) (tkN T k) (fCt S (h.2.1 r)) 0 < 0 then .inl (5, (k.2.1 : Int))
    else if agB S (h.2.1 r) (nFd (N 1 (h.2.1 r)) (tkN T k) (fCt S (h.2.1 r)) 0).toNat told = true then .inl (4, (k.2.1 : Int))
    else xPt S N T n bd h ((0, r, 0, (nFd (N 1 (h.2.1 r)) (tkN T k) (fCt S (h.2.1 r)) 0).toNat :: told) :: K) r (nFd (N 1 (h.2.1 r)) (tkN T k) (fCt S (h.2.1 r)) 0).toNat k
    else .inl (2, (k.2.1 : Int)) := sorry
theorem TXe.up {p p' : Nat} {X : Xs} {v : Int} (x : TXe S N T n m s bd μ' p X v μ'') (f : frZ m μ μ') (hp : p' ≤ p) : TXe S N T n m s bd μ p' X v μ'' := sorry
end Xt
end
section
section Xt
variable {μ μ' μ'' : ab_M} {d : Nat} {T : Nat → Int} {n : Nat} {k : Tok} {S : SF} {N : NF} {m s bd : Nat} {h h' : He} {K K' : List Fr} {al : Nat → Bool} {ε : Nat → Nat} {uM pM r j : Nat}
def xK (S : SF) (h : He) : List Fr → Prop
  | [] => True
  | F :: K => (F.1 = 0 → (∀ G ∈ K, G.2.1 < F.2.1) ∧ (∀ j, j < fCt S (h.2.1 F.2.1) → j ∉ F.2.2.2 → h.2.2.1 F.2.1 j = []) ∧ ∀ j ∈ F.2.2.2, j < fCt S (h.2.1 F.2.1)) ∧ (F.1 ≠ 0 → F.2.2.1 < fCt S (h.2.1 F.2.1) ∧ S 11 (h.2.1 F.2.1) F.2.2.1 = F.1 + 1 ∧ (K = [] ∨ ∃ G K', K = G :: K' ∧ G.1 = 0 ∧ G.2.1 = F.2.1 ∧ F.2.2.1 ∈ G.2.2.2)) ∧ F.1 ≤ 2 ∧ F.2.1 < h.1 ∧ xK S h K
theorem xK.le {F : Fr} (q : xK S h (F :: K)) : ∀ G ∈ K, G.2.1 ≤ F.2.1 := sorry
theorem xK.len : ∀ {K : List Fr}, xK S h K → K.length ≤ 2 * recs K + 1 := sorry
theorem tw_opn {w : Nat} (x : TX S N T n m s bd μ h K al ε uM pM) (ht : tT μ T n k) (hr : r < h.1) (ha : al r = true) (hw : w ≤ 2) (w0 : w ≠ 0) (hK : K.length < 59) (hz : k.1 ≠ 0) (hu : uM ≤ 450 + k.2.1) (hp : pM ≤ 2100 + k.2.1) :
    R0 (ab_run wt (d + 9) 185 0 [(2, 7756), (0, w), (0, (ε r)), (0, (fX s (h.2.1 r) j)), (3, 0)] [] μ) (fun v1 μ1 => v1 = 1 ∧ (∀ f, xAdv T n k = .inl f → Ft (ab_run wt (d + 9) 174 0 [(2, 7756), (3, 0), (3, 0)] [] μ1) (frZ m μ) f.1 f.2) ∧ ∀ k3, xAdv T n k = .inr k3 → R0 (ab_run wt (d + 9) 174 0 [(2, 7756), (3, 0), (3, 0)] [] μ1) (TXe S N T n m s bd μ k.2.1 (k3, h, (w, r, j, []) :: K))) := sorry
theorem tw_p169 {f0 : Nat} {told : List Nat} (x : TX S N T n m s bd μ h ((0, r, f0, told) :: K) al ε uM pM) (ht : tT μ T n k) (hj : j < fCt S (h.2.1 r)) (hz : k.1 ≠ 0) (hF : ∀ G ∈ K, G.2.1 < r) (hK : K.length < 58) (hb : bd ≤ 12) (hv : h.2.2.1 r j = []) (hu : uM ≤ 450 + k.2.1) (hp : pM ≤ 2100 + k.2.1) :
    (∀ f, xPt S N T n bd h ((0, r, 0, j :: told) :: K) r j k = .inl f → Ft (ab_run wt (d + 10) 260 169 [(2, 7756), (0, (ε r)), (3, 0), (0, j), (0, (fX s (h.2.1 r) j)), (0, 0), (3, 0)] [] μ) (frZ m μ) f.1 f.2) ∧ ∀ X', xPt S N T n bd h ((0, r, 0, j :: told) :: K) r j k = .inr X' → R0 (ab_run wt (d + 10) 260 169 [(2, 7756), (0, (ε r)), (3, 0), (0, j), (0, (fX s (h.2.1 r) j)), (0, 0), (3, 0)] [] μ) (TXe S N T n m s bd μ k.2.1 X') := sorry
theorem tw_part {f0 : Nat} {told : List Nat} (x : TX S N T n m s bd μ h ((0, r, f0, told) :: K) al ε uM pM) (nz : m = 13 → r ≠ 0) (q : xK S h ((0, r, f0, told) :: K)) (ht : tT μ T n k) (hK : recs K < 13) (hb : bd ≤ 12) (hu : uM ≤ 450 + k.2.1) (hp : pM ≤ 2100 + k.2.1) :
    (∀ f, xPart S N T n bd h (0, r, f0, told) K k = .inl f → Ft (ab_run wt (d + 10) 260 0 [(2, 7756), (3, 0), (3, 0), (3, 0), (3, 0), (3, 0), (3, 0)] [] μ) (frZ m μ) f.1 f.2) ∧ ∀ X', xPart S N T n bd h (0, r, f0, told) K k = .inr X' → R0 (ab_run wt (d + 10) 260 0 [(2, 7756), (3, 0), (3, 0), (3, 0), (3, 0), (3, 0), (3, 0)] [] μ) (TXe S N T n m s bd μ k.2.1 X') := sorry
end Xt
end
section
section Xt
variable {μ μ' μ'' : ab_M} {d : Nat} {T : Nat → Int} {n : Nat} {k : Tok} {S : SF} {N : NF} {m s bd : Nat} {h h' : He} {K K' : List Fr} {al : Nat → Bool} {ε : Nat → Nat} {uM pM r j e : Nat} {key : Int × List Int}
def kyS (S : SF) (μ : ab_M) (m s : Nat) (h : He) (al : Nat → Bool) (ε : Nat → Nat) (uM pM r j e : Nat) (key : Int × List Int) : Prop := ∃ W c uc own c1 c2 W1 W2, tH S μ m s h.1 al h.2.1 h.2.2.1 h.2.2.2 ε W c uc own uM pM ∧ tKp S (h.2.1 r) j (c r) c1 c2 (W r) W1 W2 (kTk (S 14 (h.2.1 r) j) key.1 key.2 (h.2.2.1 r j)) (kDp (S 14 (h.2.1 r) j) key.1 key.2 (h.2.2.1 r j)) ∧ μ 7756 162 = lsI c1 ∧ (4600 * m < e ∧ e < 4600 * m + uM ∧ ∀ r', r' < h.1 → al r' = true → e ∉ c r' ∧ e ∉ uc r' ∧ ε r' ≠ e) ∧ (μ 7869 e = fX s (h.2.1 r) j ∧ μ 7871 e = -2 ∧ μ 7872 e = -2 ∧ μ 7873 e = 0 ∧ μ 7874 e = 0 ∧ μ 7875 e = 0) ∧ μ 7876 e = key.1 ∧ tMx μ m pM 7877 7878 e key.2
theorem kyS.mv {pM' : Nat} (y : kyS S μ m s h al ε uM pM r j e key) (f : ∀ a, 7863 ≤ a → a ≤ 7878 → a ≠ 7868 → ∀ i, μ' a i = μ a i) (fp : ∀ i, 9000 * m ≤ i → i < 9000 * m + pM → μ' 7879 i = μ 7879 i) (hp : μ' 7868 m = pM') (h1 : pM ≤ pM') (h2 : pM' ≤ 9000) (pa : μ' 7756 162 = μ 7756 162) : kyS S μ' m s h al ε uM pM' r j e key := sorry
theorem TC.pi {nr kk : Nat} {ty : Nat → Nat} {V : Nat → Nat → List It} {U : Nat → List Un} {A B : List It} {t : It} (h : TC S μ m nr al ty V U) (hr : r < nr) (ha : al r = true) (hj : j < fCt S (ty r)) (hv : V r j = A ++ B) (e1 : μ' 7865 m = μ 7865 m + tWg (S 11 (ty r) j) (decide (V r j = []))) (e2 : μ' 7866 m = μ 7866 m + t.2.1.length) (ht : t.2.2.2.1 = []) : TC S μ' m (nr + 1) (upL al nr true) (upT ty nr kk) (upV (nwV V nr) r j (A ++ t :: B)) (nwU U nr) := sorry
theorem noOr.pi {nr kk : Nat} {ty : Nat → Nat} {V : Nat → Nat → List It} {A B : List It} {t : It} {F : Nat → Prop} (h : noOr S nr al ty V F) (hr : r < nr) (ha : al r = true) (hj : j < fCt S (ty r)) (h2 : fSo (S 12 (ty r) j) = 2) (hv : V r j = A ++ B) (ht : t.2.2.2.2 = nr) : noOr S (nr + 1) (upL al nr true) (upT ty nr kk) (upV (nwV V nr) r j (A ++ t :: B)) F := sorry
theorem tw_keyPut {v : Int} {fi : Nat} {l : List Int} (x : TX S N T n m s bd μ h K al ε uM pM) (y : kyS S μ m s h al ε uM pM r j e key) (hr : r < h.1) (ha : al r = true) (hj : j < fCt S (h.2.1 r)) (m3 : S 11 (h.2.1 r) j = 3) (h12 : S 12 (h.2.1 r) j ≠ 12) (hk : byt key.2 ∧ lng key.1 ∧ kyE (S 14 (h.2.1 r) j) key = key) (hl : fi + l.length ≤ pM) (hb : tBy μ 7879 (9000 * m + fi) l) :
    R3 (ab_run wt (d + 2) 227 0 [(2, 7756), (0, (ε r)), (0, (μ 7756 162)), (0, e), (3, 0), (3, 0)] [] μ) (fun μ1 => frH m μ μ1 ∧ R3 (ab_run wt (d + 2) 60 0 [(2, 7756), (0, e), (1, v), (3, 0), (0, fi), (0, (l.length))] [] μ1) (fun μ' => TX S N T n m s bd μ' (hSet S N h r j key v l) K al ε uM pM ∧ frH m μ μ')) := sorry
theorem tw_keyRec {t' : Nat} (x : TX S N T n m s bd μ h K al ε uM pM) (y : kyS S μ m s h al ε uM pM r j e key) (hr : r < h.1) (ha : al r = true) (hj : j < fCt S (h.2.1 r)) (m3 : S 11 (h.2.1 r) j = 3) (h12 : S 12 (h.2.1 r) j = 12) (h13 : S 13 (h.2.1 r) j = t') (hk : byt key.2 ∧ lng key.1 ∧ kyE (S 14 (h.2.1 r) j) key = key) :
    R3 (ab_run wt (d + 2) 227 0 [(2, 7756), (0, (ε r)), (0, (μ 7756 162)), (0, e), (3, 0), (3, 0)] [] μ) (fun μ' => TX S N T n m s bd μ' (hRec S h r j key) K (upL al h.1 true) (upL ε h.1 e) uM pM ∧ frK m μ μ') := sorry
end Xt
end
section
section Xt
variable {μ μ' μ'' : ab_M} {d : Nat} {T : Nat → Int} {n : Nat} {k : Tok} {S : SF} {N : NF} {m s bd : Nat} {h h' : He} {K K' : List Fr} {al : Nat → Bool} {ε : Nat → Nat} {uM pM r j e : Nat} {key : Int × List Int}
theorem kyS.rg (y : kyS S μ m s h al ε uM pM r j e key) : e < 73600 := sorry
theorem tw_valueKS (x : TX S N T n m s bd μ h K al ε uM pM) (y : kyS S μ m s h al ε uM pM r j e key) (ht : tT μ T n k) (hr : r < h.1) (ha : al r = true) (hj : j < fCt S (h.2.1 r)) (h12 : S 12 (h.2.1 r) j ≠ 12) (m3 : S 11 (h.2.1 r) j = 3) (hk : byt key.2 ∧ lng key.1 ∧ kyE (S 14 (h.2.1 r) j) key = key) (hK : K.length < 59) (hu : uM ≤ 450 + k.2.1) (hp : pM ≤ 2100 + k.2.1) :
    (∀ f, xVal S N T n bd h K r j key k = .inl f → Ft (ab_run wt (d + 9) 268 0 [(2, 7756), (0, (ε r)), (0, (fX s (h.2.1 r) j)), (0, e), (3, 0), (3, 0), (3, 0)] [] μ) (frZ m μ) f.1 f.2) ∧ ∀ X', xVal S N T n bd h K r j key k = .inr X' → R0 (ab_run wt (d + 9) 268 0 [(2, 7756), (0, (ε r)), (0, (fX s (h.2.1 r) j)), (0, e), (3, 0), (3, 0), (3, 0)] [] μ) (TXe S N T n m s bd μ k.2.1 X') := sorry
theorem tw_valueKR (x : TX S N T n m s bd μ h K al ε uM pM) (y : kyS S μ m s h al ε uM pM r j e key) (ht : tT μ T n k) (hr : r < h.1) (ha : al r = true) (hj : j < fCt S (h.2.1 r)) (h12 : S 12 (h.2.1 r) j = 12) (m3 : S 11 (h.2.1 r) j = 3) (hk : byt key.2 ∧ lng key.1 ∧ kyE (S 14 (h.2.1 r) j) key = key) (hK : K.length < 59) (hb : bd ≤ 12) (hu : uM ≤ 450 + k.2.1) (hp : pM ≤ 2100 + k.2.1) :
    (∀ f, xVal S N T n bd h K r j key k = .inl f → Ft (ab_run wt (d + 9) 268 0 [(2, 7756), (0, (ε r)), (0, (fX s (h.2.1 r) j)), (0, e), (3, 0), (3, 0), (3, 0)] [] μ) (frZ m μ) f.1 f.2) ∧ ∀ X', xVal S N T n bd h K r j key k = .inr X' → R0 (ab_run wt (d + 9) 268 0 [(2, 7756), (0, (ε r)), (0, (fX s (h.2.1 r) j)), (0, e), (3, 0), (3, 0), (3, 0)] [] μ) (TXe S N T n m s bd μ k.2.1 X') := sorry
theorem tw_valueK (x : TX S N T n m s bd μ h K al ε uM pM) (y : kyS S μ m s h al ε uM pM r j e key) (ht : tT μ T n k) (hr : r < h.1) (ha : al r = true) (hj : j < fCt S (h.2.1 r)) (m3 : S 11 (h.2.1 r) j = 3) (hk : byt key.2 ∧ lng key.1 ∧ kyE (S 14 (h.2.1 r) j) key = key) (hK : K.length < 59) (hb : bd ≤ 12) (hu : uM ≤ 450 + k.2.1) (hp : pM ≤ 2100 + k.2.1) :
    (∀ f, xVal S N T n bd h K r j key k = .inl f → Ft (ab_run wt (d + 9) 268 0 [(2, 7756), (0, (ε r)), (0, (fX s (h.2.1 r) j)), (0, e), (3, 0), (3, 0), (3, 0)] [] μ) (frZ m μ) f.1 f.2) ∧ ∀ X', xVal S N T n bd h K r j key k = .inr X' → R0 (ab_run wt (d + 9) 268 0 [(2, 7756), (0, (ε r)), (0, (fX s (h.2.1 r) j)), (0, e), (3, 0), (3, 0), (3, 0)] [] μ) (TXe S N T n m s bd μ k.2.1 X') := sorry
end Xt
end
section
section Xt
variable {μ μ' μ'' : ab_M} {d : Nat} {T : Nat → Int} {n : Nat} {k : Tok} {S : SF} {N : NF} {m s bd : Nat} {h h' : He} {K K' : List Fr} {al : Nat → Bool} {ε : Nat → Nat} {uM pM r j e : Nat} {key : Int × List Int}
theorem xItem_eq {F : Fr} : xItem S N T n bd h F K k = match rdS S N T n (S 14 (h.2.1 F.2.1) F.2.2.1) 0 k with
  | .inl f => .inl f
  | .inr q => if kyB (S 14 (h.2.1 F.2.1) F.2.2.1) (q.1, q.2.1) (h.2.2.1 F.2.1 F.2.2.1) = true then .inl (4, (k.2.1 : Int)) else match xAdv T n q.2.2 with
    | .inl f => .inl f
    | .inr k1 => match xWnt T n 58 k1 with
      | .inl f => .inl f
      | .inr k2 => xVal S N T n bd h (F :: K) F.2.1 F.2.2.1 (q.1, q.2.1) k2 := sorry
theorem tH.fl {nr : Nat} {ty : Nat → Nat} {V : Nat → Nat → List It} {U : Nat → List Un} {W : Nat → List We} {c uc : Nat → List Nat} {own : Nat → Nat} (t : tH S μ m s nr al ty V U ε W c uc own uM pM) (f : frL μ μ') : tH S μ' m s nr al ty V U ε W c uc own uM pM := sorry
theorem tw_keyNew {W : Nat → List We} {c uc : Nat → List Nat} {own : Nat → Nat} {c1 c2 : List Nat} {W1 W2 : List We} {v : Int} {fi : Nat} {l : List Int} (x : TX S N T n m s bd μ h K al ε uM pM) (t : tH S μ m s h.1 al h.2.1 h.2.2.1 h.2.2.2 ε W c uc own uM pM) (kp : tKp S (h.2.1 r) j (c r) c1 c2 (W r) W1 W2 (kTk (S 14 (h.2.1 r) j) v l (h.2.2.1 r j)) (kDp (S 14 (h.2.1 r) j) v l (h.2.2.1 r j))) (hu : uM < 4600) (hl : fi + l.length ≤ pM) (hb : tBy μ 7879 (9000 * m + fi) l)
    (g : ∀ a i, (a < 7869 ∨ 7878 < a ∨ i ≠ 4600 * m + uM) → (a ≠ 7867 ∨ i ≠ m) → (a ≠ 7756 ∨ i ≠ 161 ∧ i ≠ 162) → μ' a i = μ a i) (gu : μ' 7867 m = ((uM + 1 : Nat) : Int)) (gp : μ' 7756 162 = lsI c1) (ge : μ' 7869 (4600 * m + uM) = fX s (h.2.1 r) j ∧ μ' 7871 (4600 * m + uM) = -2 ∧ μ' 7872 (4600 * m + uM) = -2 ∧ μ' 7873 (4600 * m + uM) = 0 ∧ μ' 7874 (4600 * m + uM) = 0 ∧ μ' 7875 (4600 * m + uM) = 0) (gk : μ' 7876 (4600 * m + uM) = v ∧ μ' 7877 (4600 * m + uM) = fi ∧ μ' 7878 (4600 * m + uM) = l.length) :
    TX S N T n m s bd μ' h K al ε (uM + 1) pM ∧ kyS S μ' m s h al ε (uM + 1) pM r j (4600 * m + uM) (v, l) ∧ frZ m μ μ' := sorry
theorem tw_itemL {tl : List Nat} (x : TX S N T n m s bd μ h ((1, r, j, tl) :: K) al ε uM pM) (q : xK S h ((1, r, j, tl) :: K)) (ht : tT μ T n k) (hK : recs K < 13) (hb : bd ≤ 12) (hu : uM ≤ 450 + k.2.1) (hp : pM ≤ 2100 + k.2.1) :
    (∀ f, xVal S N T n bd h ((1, r, j, tl) :: K) r j (0, []) k = .inl f → Ft (ab_run wt (d + 10) 251 0 [(2, 7756), (0, 1), (3, 0), (3, 0), (3, 0), (3, 0), (3, 0), (3, 0)] [] μ) (frZ m μ) f.1 f.2) ∧ ∀ X', xVal S N T n bd h ((1, r, j, tl) :: K) r j (0, []) k = .inr X' → R0 (ab_run wt (d + 10) 251 0 [(2, 7756), (0, 1), (3, 0), (3, 0), (3, 0), (3, 0), (3, 0), (3, 0)] [] μ) (TXe S N T n m s bd μ k.2.1 X') := sorry
theorem kyB_iff {kk : Int} {L : List It} : kyB kk key L = true ↔ ∃ t L', kDp kk key.1 key.2 L = t :: L' ∧ kyC kk t key.1 key.2 = 0 := sorry
end Xt
end
section
section Xt
variable {μ μ' μ'' : ab_M} {d : Nat} {T : Nat → Int} {n : Nat} {k : Tok} {S : SF} {N : NF} {m s bd : Nat} {h h' : He} {K K' : List Fr} {al : Nat → Bool} {ε : Nat → Nat} {uM pM r j e : Nat} {key : Int × List Int}
theorem tw_itemM {tl : List Nat} (x : TX S N T n m s bd μ h ((2, r, j, tl) :: K) al ε uM pM) (q : xK S h ((2, r, j, tl) :: K)) (ht : tT μ T n k) (hK : recs K < 13) (hb : bd ≤ 12) (hu : uM ≤ 450 + k.2.1) (hp : pM ≤ 2100 + k.2.1) :
    (∀ f, xItem S N T n bd h (2, r, j, tl) K k = .inl f → Ft (ab_run wt (d + 10) 251 0 [(2, 7756), (0, 2), (3, 0), (3, 0), (3, 0), (3, 0), (3, 0), (3, 0)] [] μ) (frZ m μ) f.1 f.2) ∧ ∀ X', xItem S N T n bd h (2, r, j, tl) K k = .inr X' → R0 (ab_run wt (d + 10) 251 0 [(2, 7756), (0, 2), (3, 0), (3, 0), (3, 0), (3, 0), (3, 0), (3, 0)] [] μ) (TXe S N T n m s bd μ k.2.1 X') := sorry
end Xt
end
section
section Xt
variable {T : Nat → Int} {n : Nat} {k : Tok} {S : SF} {N : NF} {bd : Nat} {h h' : He} {K K' : List Fr} {r j : Nat} {key : Int × List Int}
theorem xK.mem : ∀ {K : List Fr}, xK S h K → ∀ G ∈ K, G.2.1 < h.1 := sorry
theorem xK.to : ∀ {K : List Fr}, xK S h K → h.1 ≤ h'.1 → (∀ a, a < h.1 → h'.2.1 a = h.2.1 a) → (∀ a c, a < h.1 → h'.2.2.1 a c = [] ∨ h'.2.2.1 a c = h.2.2.1 a c ∨ a = r ∧ c = j) → (∀ G ∈ K, G.1 = 0 → G.2.1 = r → j ∈ G.2.2.2) → xK S h' K := sorry
theorem hSet_V (v : Int) (l : List Int) (a c : Nat) : (hSet S N h r j key v l).2.2.1 a c = [] ∨ (hSet S N h r j key v l).2.2.1 a c = h.2.2.1 a c ∨ a = r ∧ c = j := sorry
theorem hRec_V (a c : Nat) (ha : a < h.1) : (hRec S h r j key).2.2.1 a c = [] ∨ (hRec S h r j key).2.2.1 a c = h.2.2.1 a c ∨ a = r ∧ c = j := sorry
theorem hRec_n (hr : r < h.1) (c : Nat) : (hRec S h r j key).2.2.1 h.1 c = [] := sorry
def xOK (S : SF) (X : Xs) : Prop := xK S X.2.1 X.2.2 ∧ recs X.2.2 ≤ 12
theorem xVal_K {X' : Xs} (q : xK S h K) (hR : recs K ≤ 12) (hr : r < h.1) (tl : ∀ G ∈ K, G.1 = 0 → G.2.1 = r → j ∈ G.2.2.2) (e : xVal S N T n bd h K r j key k = .inr X') : xOK S X' := sorry
theorem xK.tel {f0 : Nat} {told : List Nat} (q : xK S h ((0, r, f0, told) :: K)) (hj : j < fCt S (h.2.1 r)) : xK S h ((0, r, 0, j :: told) :: K) := sorry
theorem xK.tld {F : Fr} (q : xK S h (F :: K)) (z : F.1 ≠ 0) : ∀ G ∈ F :: K, G.1 = 0 → G.2.1 = F.2.1 → F.2.2.1 ∈ G.2.2.2 := sorry
theorem xPart_K {f0 : Nat} {told : List Nat} {X' : Xs} (q : xK S h ((0, r, f0, told) :: K)) (hR : recs ((0, r, f0, told) :: K) ≤ 12) (e : xPart S N T n bd h (0, r, f0, told) K k = .inr X') : xOK S X' := sorry
theorem xItem_K {F : Fr} {X' : Xs} (q : xK S h (F :: K)) (hR : recs (F :: K) ≤ 12) (z : F.1 ≠ 0) (e : xItem S N T n bd h F K k = .inr X') : xOK S X' := sorry
theorem xStep_0 {F : Fr} (z : ¬ isSg k (cls F.1)) (y : F.1 = 0) : xStep S N T n bd (k, h, F :: K) = xPart S N T n bd h F K k := sorry
theorem xStep_1 {F : Fr} (z : ¬ isSg k (cls F.1)) (y : F.1 = 1) : xStep S N T n bd (k, h, F :: K) = xVal S N T n bd h (F :: K) F.2.1 F.2.2.1 (0, []) k := sorry
theorem xStep_2 {F : Fr} (z : ¬ isSg k (cls F.1)) (y : F.1 ≠ 0) (v : F.1 ≠ 1) : xStep S N T n bd (k, h, F :: K) = xItem S N T n bd h F K k := sorry
theorem xStep_c {F : Fr} (z : isSg k (cls F.1)) : xStep S N T n bd (k, h, F :: K) = match xEnd T n K k with
    | .inl f => .inl f
    | .inr k2 => .inr (k2, h, K) := sorry
theorem xStep_K {X X' : Xs} (q : xOK S X) (e : xStep S N T n bd X = .inr X') : xOK S X' := sorry
end Xt
end
section
section Xt
variable {μ μ' μ'' : ab_M} {d : Nat} {T : Nat → Int} {n : Nat} {k : Tok} {S : SF} {N : NF} {m s bd : Nat} {h h' : He} {K K' : List Fr} {al : Nat → Bool} {ε : Nat → Nat} {uM pM r j e : Nat}
noncomputable def xIt (S : SF) (N : NF) (T : Nat → Int) (n bd : Nat) : Nat → Xs → Flt ⊕ Xs
  | 0, X => .inr X
  | c + 1, X => if X.2.2 = [] then .inr X else match xStep S N T n bd X with
    | .inl f => .inl f
    | .inr X' => xIt S N T n bd c X'
def nzK (m : Nat) (K : List Fr) : Prop := m = 13 → ∀ F ∈ K, F.1 = 0 → F.2.1 ≠ 0
theorem xVal_fr {key : Int × List Int} {X : Xs} (e : xVal S N T n bd h K r j key k = .inr X) : ∀ F ∈ X.2.2, F ∈ K ∨ F.2.1 = h.1 := sorry
theorem xPart_fr {F : Fr} {X : Xs} (e : xPart S N T n bd h F K k = .inr X) : ∀ G ∈ X.2.2, G ∈ K ∨ G.2.1 = h.1 ∨ G.2.1 = F.2.1 := sorry
theorem xItem_fr {F : Fr} {X : Xs} (e : xItem S N T n bd h F K k = .inr X) : ∀ G ∈ X.2.2, G ∈ F :: K ∨ G.2.1 = h.1 := sorry
theorem nzK.step {X : Xs} (z : nzK m K) (h0 : 0 < h.1) (e : xStep S N T n bd (k, h, K) = .inr X) : nzK m X.2.2 := sorry
theorem TX.pop {F : Fr} (x : TX S N T n m s bd μ h (F :: K) al ε uM pM) (g : ∀ a i, (a ≠ 7756 ∨ i ≠ 158 ∧ i ≠ 160) → μ' a i = μ a i) (g1 : μ' 7756 158 = K.length) (g2 : μ' 7756 160 = recs K) : TX S N T n m s bd μ' h K al ε uM pM := sorry
theorem tw_73 {ty : Nat → Nat} (ht : tT μ T n k) (hs : stC μ s ty ε K) (hK : K.length < 60) (hw : ∀ F ∈ K, F.1 ≤ 2) : (∀ f, xEnd T n K k = .inl f → Ft (ab_run wt (d + 11) 257 73 [(2, 7756), (3, 0), (3, 0)] [] μ) (frL μ) f.1 f.2) ∧ ∀ k', xEnd T n K k = .inr k' → ∃ μ', (ab_run wt (d + 11) 257 73 [(2, 7756), (3, 0), (3, 0)] [] μ) = (ab_run wt (d + 11) 257 0 [(2, 7756), (3, 0), (3, 0)] [] μ') ∧ tT μ' T n k' ∧ k.2.2.1 ≤ k'.2.1 ∧ frL μ μ' := sorry
def TXf (S : SF) (N : NF) (T : Nat → Int) (n m s bd : Nat) (μ : ab_M) (X : Xs) (v : Int) (μ' : ab_M) : Prop := v = 1 ∧ tT μ' T n X.1 ∧ (∃ al' ε' uM' pM', TX S N T n m s bd μ' X.2.1 [] al' ε' uM' pM' ∧ uM' ≤ 450 + X.1.2.1 ∧ pM' ≤ 2100 + X.1.2.1) ∧ frZ m μ μ'
theorem tw_readOpen (hb : bd ≤ 12) : ∀ (c : Nat) (μ : ab_M) (k : Tok) (h : He) (K : List Fr) (al : Nat → Bool) (ε : Nat → Nat) (uM pM : Nat), TX S N T n m s bd μ h K al ε uM pM → nzK m K → xOK S (k, h, K) → tT μ T n k → uM ≤ 450 + k.2.1 → pM ≤ 2100 + k.2.1 → n < k.2.1 + c →
    (∀ f, xIt S N T n bd c (k, h, K) = .inl f → Ft (ab_run wt (d + 11) 257 0 [(2, 7756), (3, 0), (3, 0)] [] μ) (frZ m μ) f.1 f.2) ∧ ∀ X', xIt S N T n bd c (k, h, K) = .inr X' → X'.2.2 = [] ∧ R0 (ab_run wt (d + 11) 257 0 [(2, 7756), (3, 0), (3, 0)] [] μ) (TXf S N T n m s bd μ X') := sorry
end Xt
end
section
section Xc
variable {T : Nat → Int} {n : Nat} {k k2 k3 : Tok} {S : SF} {N : NF} {bd : Nat} {h h' : He} {K K' : List Fr} {X Y Z : Xs} {f : Flt} {W : Flt ⊕ Xs}
noncomputable def xN (S : SF) (N : NF) (T : Nat → Int) (n bd : Nat) : Nat → Xs → Option Xs
  | 0, X => some X
  | c + 1, X => match xStep S N T n bd X with
    | .inl _ => none
    | .inr X' => xN S N T n bd c X'
def xTo (S : SF) (N : NF) (T : Nat → Int) (n bd : Nat) (X Y : Xs) : Prop := ∃ c, xN S N T n bd c X = some Y
theorem xTo.refl : xTo S N T n bd X X := sorry
theorem xTo.step (e : xStep S N T n bd X = .inr Y) (t : xTo S N T n bd Y Z) : xTo S N T n bd X Z := sorry
theorem xN_add : ∀ (c : Nat) (X Y : Xs) (c' : Nat), xN S N T n bd c X = some Y → xN S N T n bd (c + c') X = xN S N T n bd c' Y := sorry
theorem xTo.trans (t : xTo S N T n bd X Y) (t' : xTo S N T n bd Y Z) : xTo S N T n bd X Z := sorry
def xFl (S : SF) (N : NF) (T : Nat → Int) (n bd : Nat) (X : Xs) (f : Flt) : Prop := ∃ Y, xTo S N T n bd X Y ∧ xStep S N T n bd Y = .inl f
noncomputable def xDn (T : Nat → Int) (n : Nat) (K : List Fr) (k2 : Tok) (h' : He) : Flt ⊕ Xs := match xBeh T n K k2 with
  | .inl f => .inl f
  | .inr k3 => .inr (k3, h', K)
def xVd (S : SF) (N : NF) (T : Nat → Int) (n bd : Nat) (X : Xs) (k2 : Tok) (h' : He) (K : List Fr) : Prop := ∃ Y, xTo S N T n bd X Y ∧ xStep S N T n bd Y = xDn T n K k2 h'
def xZf (S : SF) (N : NF) (T : Nat → Int) (n bd : Nat) (W : Flt ⊕ Xs) (f : Flt) : Prop := W = .inl f ∨ ∃ X1, W = .inr X1 ∧ xFl S N T n bd X1 f
def xZd (S : SF) (N : NF) (T : Nat → Int) (n bd : Nat) (W : Flt ⊕ Xs) (k2 : Tok) (h' : He) (K : List Fr) : Prop := W = xDn T n K k2 h' ∨ ∃ X1, W = .inr X1 ∧ xVd S N T n bd X1 k2 h' K
theorem xFl.of (t : xTo S N T n bd X Y) (g : xFl S N T n bd Y f) : xFl S N T n bd X f := sorry
theorem xVd.of (t : xTo S N T n bd X Y) (g : xVd S N T n bd Y k2 h' K) : xVd S N T n bd X k2 h' K := sorry
theorem xZf.fl (e : xStep S N T n bd X = W) (g : xZf S N T n bd W f) : xFl S N T n bd X f := sorry
theorem xZd.vd (e : xStep S N T n bd X = W) (g : xZd S N T n bd W k2 h' K) : xVd S N T n bd X k2 h' K := sorry
theorem xVd.go (v : xVd S N T n bd X k2 h' K) (e : xBeh T n K k2 = .inr k3) : xTo S N T n bd X (k3, h', K) := sorry
theorem xVd.fl (v : xVd S N T n bd X k2 h' K) (e : xBeh T n K k2 = .inl f) : xFl S N T n bd X f := sorry
theorem xVd.close {F : Fr} (z : isSg k (cls F.1)) (e : xAdv T n k = .inr k2) (t : xTo S N T n bd X (k, h, F :: K)) : xVd S N T n bd X k2 h K := sorry
theorem xFl.close {F : Fr} (z : isSg k (cls F.1)) (e : xAdv T n k = .inl f) (t : xTo S N T n bd X (k, h, F :: K)) : xFl S N T n bd X f := sorry
theorem xN_nil : ∀ (c : Nat) (X Y : Xs), X.2.2 = [] → xN S N T n bd c X = some Y → Y = X := sorry
theorem xIt_to : ∀ (c c' : Nat) (X Y : Xs), xN S N T n bd c X = some Y → Y.2.2 = [] → ∀ Z, xIt S N T n bd c' X = .inr Z → Z.2.2 = [] → Z = Y := sorry
end Xc
end
section
section Ks
variable {k v : Int} {l : List Int} {L : List It} {t u : It}
theorem lexT_zero : ∀ {a b : List Int}, lexT a b = 0 → a = b := sorry
theorem lexT_anti : ∀ {a b : List Int}, lexT b a = -lexT a b := sorry
theorem lexT_trans : ∀ {a b c : List Int}, lexT a b < 0 → lexT b c < 0 → lexT a c < 0 := sorry
theorem kyC_anti (h1 : lng t.1) (h2 : lng u.1) (h : 0 < kyC k t u.1 u.2.1) : kyC k u t.1 t.2.1 < 0 := sorry
theorem kyC_trans {w : It} (h1 : kyC k t u.1 u.2.1 < 0) (h2 : kyC k u w.1 w.2.1 < 0) : kyC k t w.1 w.2.1 < 0 := sorry
theorem kyC_zero (h : kyC k t v l = 0) (h1 : lng t.1) (h2 : lng v) (u : It) : kyC k u t.1 t.2.1 = kyC k u v l := sorry
def srt (k : Int) (L : List It) : Prop := L.Pairwise (fun a b => kyC k a b.1 b.2.1 < 0)
theorem kTk_lt : ∀ {L : List It}, ∀ t ∈ kTk k v l L, kyC k t v l < 0 ∧ t ∈ L := sorry
theorem kyB_cons : kyB k (v, l) (u :: L) = if kyC k u v l < 0 then kyB k (v, l) L else decide (kyC k u v l = 0) := sorry
theorem kyB_all : ∀ {L : List It}, srt k L → (∀ t ∈ L, lng t.1) → lng v → (kyB k (v, l) L = true ↔ ∃ t ∈ L, kyC k t v l = 0) := sorry
theorem srt_ins (h1 : t.1 = v) (h2 : t.2.1 = l) (hv : lng v) : ∀ {L : List It}, srt k L → (∀ t ∈ L, lng t.1) → ¬ kyB k (v, l) L = true → srt k (kTk k v l L ++ t :: kDp k v l L) := sorry
end Ks
end
section
section Cx
variable {μ μ' μ'' : ab_M} {d : Nat} {T : Nat → Int} {n : Nat} {k k' k2 : Tok} {S : SF} {N : NF} {A cr ci cb kS b q0 i0 u0 bd : Nat} {h h' h'' : He} {K : List Fr} {X : Rsv} {Vc Vc' Vc'' : Nat → Nat → List It} {r j rc lo lo' : Nat}
def frQ (A lo : Nat) (μ μ' : ab_M) : Prop := (∀ a i, ¬ inM A a → a ≠ 2 → a ≠ 8 → a ≠ 9 → a ≠ 1309 → (a ≠ 1 ∨ i ≠ 18 ∧ i ≠ 20) → μ' a i = μ a i) ∧ (∀ i, i < 3 → μ' A i = μ A i) ∧ ∀ i, i < lo → μ' (msA A 10) i = μ (msA A 10) i
theorem frQ.refl : frQ A lo μ μ := sorry
theorem frQ.trans (f : frQ A lo μ μ') (g : frQ A lo μ' μ'') : frQ A lo μ μ'' := sorry
theorem frQ.le (f : frQ A lo μ μ') (l : lo' ≤ lo) : frQ A lo' μ μ' := sorry
theorem isM_rg (hm : isM A cr ci cb) : 1255 ≤ A ∧ (A ≤ 1282 ∨ 6314 ≤ A ∧ A ≤ 6611) := sorry
theorem inM_rg {a : Nat} (hm : isM A cr ci cb) (ha : inM A a) : a ≠ 1 ∧ a ≠ 2 ∧ a ≠ 8 ∧ a ≠ 9 ∧ a ≠ 10 ∧ a ≠ 1309 := sorry
theorem frP.m (f : frP μ μ') (hm : isM A cr ci cb) {a : Nat} (ha : inM A a) (i : Nat) : μ' a i = μ a i := sorry
theorem frP.q (f : frP μ μ') (hm : isM A cr ci cb) : frQ A lo μ μ' := sorry
theorem frM.q (f : frM A μ μ') (l : (lo : Int) ≤ μ A 8) : frQ A lo μ μ' := sorry
theorem CM.eq {nr : Nat} {ty : Nat → Nat} {U : Nat → List Un} {ni nu us : Nat} (c : CM X S μ A cr ci cb nr ty Vc U ni nu us) (f : ∀ a, inM A a → ∀ i, μ' a i = μ a i) : CM X S μ' A cr ci cb nr ty Vc U ni nu us := sorry
theorem cMS.q (c : cMS μ A kS b S N) (hm : isM A cr ci cb) (f : frP μ μ') : cMS μ' A kS b S N := sorry
def CS (S : SF) (N : NF) (T : Nat → Int) (n A cr ci cb kS b q0 i0 u0 : Nat) (X : Rsv) (μ : ab_M) (k : Tok) (h : He) (Vc : Nat → Nat → List It) (rc : Nat) : Prop := cT μ T n k ∧ cMS μ A kS b S N ∧ ∃ ni nu us, CM X S μ A cr ci cb h.1 h.2.1 Vc h.2.2.2 ni nu us ∧ 2 * h.1 ≤ k.2.1 + rc + q0 ∧ ni ≤ k.2.1 + i0 ∧ us ≤ k.2.1 + u0
theorem CS.tk (c : CS S N T n A cr ci cb kS b q0 i0 u0 X μ k h Vc rc) (hm : isM A cr ci cb) (t : cT μ' T n k') {rc' i0' : Nat} (f : frP μ μ') (le : k.2.1 ≤ k'.2.1) (lr : k.2.1 + rc ≤ k'.2.1 + rc') (li : k.2.1 + i0 ≤ k'.2.1 + i0' := by omega) : CS S N T n A cr ci cb kS b q0 i0' u0 X μ' k' h Vc rc' := sorry
def agr (r : Nat) (h : He) (Vc : Nat → Nat → List It) : Prop := ∀ a, r ≤ a → Vc a = h.2.2.1 a
def kpt (r : Nat) (h h' : He) (Vc Vc' : Nat → Nat → List It) : Prop := h.1 ≤ h'.1 ∧ (∀ a, a < h.1 → h'.2.1 a = h.2.1 a ∧ h'.2.2.2 a = h.2.2.2 a) ∧ ∀ a, a < r → h'.2.2.1 a = h.2.2.1 a ∧ Vc' a = Vc a
theorem kpt.refl : kpt r h h Vc Vc := sorry
theorem kpt.trans (a : kpt r h h' Vc Vc') (b : kpt r h' h'' Vc' Vc'') : kpt r h h'' Vc Vc'' := sorry
theorem kpt.le {r' : Nat} (a : kpt r h h' Vc Vc') (l : r' ≤ r) : kpt r' h h' Vc Vc' := sorry
def hG (S : SF) (h : He) : Prop := hI S h ∧ ∀ r j, r < h.1 → j < fCt S (h.2.1 r) → S 11 (h.2.1 r) j = 3 → srt (S 14 (h.2.1 r) j) (h.2.2.1 r j)
def RfQ (run : ab_R) (A : Nat) (μ : ab_M) (f : Flt) : Prop := RT run (fun μ' => μ' 2 6 = f.1 ∧ μ' 2 7 = f.2 ∧ frQ A 0 μ μ')
theorem Rf.q {run : ab_R} {x y : Int} (hm : isM A cr ci cb) (g : Rf run μ x y) : RfQ run A μ (x, y) := sorry
theorem RfQ.to {run : ab_R} {f : Flt} (g : RfQ run A μ' f) (q : frQ A lo μ μ') : RfQ run A μ f := sorry
def cRs (S : SF) (N : NF) (T : Nat → Int) (n A cr ci cb kS b q0 i0 u0 : Nat) (run : ab_R) (μ : ab_M) (lo r rc p : Nat) (X : Rsv) (h : He) (Vc : Nat → Nat → List It) (fl : Flt → Prop) (dn : Tok → He → Prop) : Prop :=
  (∃ f, fl f ∧ RfQ run A μ f) ∨ R3 run (fun μ' => ∃ k2 h' Vc', dn k2 h' ∧ CS S N T n A cr ci cb kS b q0 i0 u0 X μ' k2 h' Vc' rc ∧ agr r h' Vc' ∧ kpt r h h' Vc Vc' ∧ hG S h' ∧ p < k2.2.1 ∧ frQ A lo μ μ')
theorem cRs.to {run : ab_R} {p p' : Nat} {fl fl' : Flt → Prop} {dn dn' : Tok → He → Prop} (x : cRs S N T n A cr ci cb kS b q0 i0 u0 run μ' lo r rc p X h Vc fl dn) (f : frQ A lo μ μ') (hp : p' ≤ p) (h1 : ∀ f, fl f → fl' f) (h2 : ∀ k h, dn k h → dn' k h) : cRs S N T n A cr ci cb kS b q0 i0 u0 run μ lo r rc p' X h Vc fl' dn' := sorry
theorem c_advX (c : cT μ T n k) : (∀ f, xAdv T n k = .inl f → Rf (ab_run wc (d + 4) 665 0 [(2, 8), (3, 0)] [] μ) μ f.1 f.2) ∧ ∀ k', xAdv T n k = .inr k' → R3 (ab_run wc (d + 4) 665 0 [(2, 8), (3, 0)] [] μ) (fun μ' => cT μ' T n k' ∧ k.2.2.1 ≤ k'.2.1 ∧ frP μ μ' ∧ ∀ a i, a ≠ 8 → a ≠ 9 → μ' a i = μ a i) := sorry
theorem c_takesX {x : Int} (c : cT μ T n k) (z : isSg k x) : (∀ f, xAdv T n k = .inl f → Rf (ab_run wc (d + 5) 680 0 [(2, 8), (0, x)] [] μ) μ f.1 f.2) ∧ ∀ k', xAdv T n k = .inr k' → R0 (ab_run wc (d + 5) 680 0 [(2, 8), (0, x)] [] μ) (fun v μ' => v = 1 ∧ cT μ' T n k' ∧ k.2.2.1 ≤ k'.2.1 ∧ frP μ μ') := sorry
theorem c_needX {x : Int} (c : cT μ T n k) : (∀ f, xWnt T n x k = .inl f → Rf (ab_run wc (d + 6) 675 0 [(2, 8), (0, x)] [] μ) μ f.1 f.2) ∧ ∀ k', xWnt T n x k = .inr k' → R3 (ab_run wc (d + 6) 675 0 [(2, 8), (0, x)] [] μ) (fun μ' => cT μ' T n k' ∧ k.2.2.1 ≤ k'.2.1 ∧ frP μ μ') := sorry
end Cx
end
section
section Cx
variable {μ μ' μ'' : ab_M} {d : Nat} {T : Nat → Int} {n : Nat} {k k' k2 : Tok} {S : SF} {N : NF} {A cr ci cb kS b q0 i0 u0 bd : Nat} {h h' h'' : He} {K : List Fr} {X : Rsv} {Vc Vc' Vc'' : Nat → Nat → List It} {r j rc lo lo' : Nat}
theorem c_beh {F : Fr} {Y : Xs} {L : ab_M → ab_R} {cl : Int} (c : cT μ T n k2) (hc : cls F.1 = cl) (v : xVd S N T n bd Y k2 h' (F :: K)) :
    (∃ f, xFl S N T n bd Y f ∧ Rf (ab_cal (ab_run wc (d + 6) 680 0 [(2, 8), (0, 44)] [] μ) 0 (fun r4 μ4 => some ((4, r4), μ4)) (fun r4 μ4 => (if r4 = 0 then (ab_cal (ab_run wc (d + 6) 675 0 [(2, 8), (0, cl)] [] μ4) 3 (fun r5 μ5 => some ((4, r5), μ5)) (fun _ μ5 => some ((3, 0), μ5))) else L μ4))) μ f.1 f.2) ∨
    (∃ k4, xVd S N T n bd Y k4 h' K ∧ R3 (ab_cal (ab_run wc (d + 6) 680 0 [(2, 8), (0, 44)] [] μ) 0 (fun r4 μ4 => some ((4, r4), μ4)) (fun r4 μ4 => (if r4 = 0 then (ab_cal (ab_run wc (d + 6) 675 0 [(2, 8), (0, cl)] [] μ4) 3 (fun r5 μ5 => some ((4, r5), μ5)) (fun _ μ5 => some ((3, 0), μ5))) else L μ4))) (fun μ' => cT μ' T n k4 ∧ k2.2.1 < k4.2.1 ∧ frP μ μ')) ∨
    ∃ k3 μ', ab_cal (ab_run wc (d + 6) 680 0 [(2, 8), (0, 44)] [] μ) 0 (fun r4 μ4 => some ((4, r4), μ4)) (fun r4 μ4 => (if r4 = 0 then (ab_cal (ab_run wc (d + 6) 675 0 [(2, 8), (0, cl)] [] μ4) 3 (fun r5 μ5 => some ((4, r5), μ5)) (fun _ μ5 => some ((3, 0), μ5))) else L μ4)) = L μ' ∧ cT μ' T n k3 ∧ k2.2.1 < k3.2.1 ∧ frP μ μ' ∧ ((isSg k3 cl ∧ xFl S N T n bd Y (2, (k3.2.1 : Int))) ∨ ¬ isSg k3 cl ∧ xTo S N T n bd Y (k3, h', F :: K)) := sorry
noncomputable def xPl (S : SF) (N : NF) (T : Nat → Int) (n : Nat) (q : Int) (t : Nat) (k : Tok) : Flt ⊕ (Int × List Int × Tok) := match rdS S N T n q t k with
  | .inl f => .inl f
  | .inr p => match xAdv T n p.2.2 with
    | .inl f => .inl f
    | .inr k2 => .inr (p.1, p.2.1, k2)
theorem c_takePlain {q x : Int} {t : Nat} (c : cT μ T n k) (hb : isS b) (ok : scOK S N) (hc : cSc μ b S N) (q1 : 0 ≤ q) (q2 : q ≤ 11) (ht : q = 11 → x = t ∧ (t : Int) < S 0 0 0 ∧ S 2 t 0 = 0) :
    (∀ f, xPl S N T n q t k = .inl f → Rf (ab_run wc (d + 8) 552 0 [(2, 1), (2, b), (2, (200000 + q)), (0, x)] [] μ) μ f.1 f.2) ∧ ∀ p, xPl S N T n q t k = .inr p → R3 (ab_run wc (d + 8) 552 0 [(2, 1), (2, b), (2, (200000 + q)), (0, x)] [] μ) (fun μ' => rdP μ q p T n μ' ∧ p.2.1.length + k.2.1 ≤ p.2.2.2.1 ∧ k.2.1 < p.2.2.2.1 ∧ p.2.1.length ≤ 60 ∧ (q ≠ 9 ∧ q ≠ 10 → p.2.1 = []) ∧ (q = 9 ∨ q = 10 → p.1 = 0) ∧ lng p.1 ∧ byt p.2.1) := sorry
end Cx
end
section
section Cx
variable {μ μ' μ'' : ab_M} {d : Nat} {T : Nat → Int} {n : Nat} {k k' k2 : Tok} {S : SF} {N : NF} {A cr ci cb kS b q0 i0 u0 bd : Nat} {h h' h'' : He} {K : List Fr} {X : Rsv} {Vc Vc' Vc'' : Nat → Nat → List It} {r j rc lo lo' : Nat} {key : Int × List Int}
theorem cT.m (c : cT μ T n k) (hm : isM A cr ci cb) (f : frM A μ μ') : cT μ' T n k := sorry
theorem xVal_pl (z : S 12 (h.2.1 r) j ≠ 12) : xVal S N T n bd h K r j key k = match xPl S N T n (S 12 (h.2.1 r) j) (S 13 (h.2.1 r) j).toNat k with
    | .inl f => .inl f
    | .inr p => xDn T n K p.2.2 (hSet S N h r j key p.1 p.2.1) := sorry
theorem hG.up {l : List It} {V' : Nat → Nat → List It} (x : hG S h) (hV : ∀ a c, V' a c = [] ∨ V' a c = h.2.2.1 a c) (hl : S 11 (h.2.1 r) j < 2 → l.length ≤ 1) (ht : ∀ t ∈ l, (S 11 (h.2.1 r) j ≠ 3 → t.1 = 0 ∧ t.2.1 = []) ∧ byt t.2.1 ∧ lng t.1) (hs : S 11 (h.2.1 r) j = 3 → srt (S 14 (h.2.1 r) j) l) : hG S (h.1, h.2.1, upV V' r j l, h.2.2.2) := sorry
theorem hG.new {t : Nat} {l : List It} {V' : Nat → Nat → List It} (x : hG S h) (hr : r < h.1) (hV : ∀ a c, V' a c = [] ∨ V' a c = h.2.2.1 a c) (hl : S 11 (h.2.1 r) j < 2 → l.length ≤ 1) (ht : ∀ q ∈ l, (S 11 (h.2.1 r) j ≠ 3 → q.1 = 0 ∧ q.2.1 = []) ∧ byt q.2.1 ∧ lng q.1) (hs : S 11 (h.2.1 r) j = 3 → srt (S 14 (h.2.1 r) j) l) : hG S (h.1 + 1, upT h.2.1 h.1 t, upV (nwV V' h.1) r j l, nwU h.2.2.2 h.1) := sorry
theorem lvO_at {t a : Nat} {V V' : Nat → Nat → List It} (e : V a = V' a) : lvO S t r j V a = lvO S t r j V' a := sorry
theorem lvO_ne {t a : Nat} {V : Nat → Nat → List It} (z : a ≠ r) : lvO S t r j V a = V a := sorry
theorem upV_at {a : Nat} {V V' : Nat → Nat → List It} {l : List It} (e : V a = V' a) : upV V r j l a = upV V' r j l a := sorry
theorem upV_o {a : Nat} {V : Nat → Nat → List It} {l : List It} (z : a ≠ r) : upV V r j l a = V a := sorry
theorem agr.one {l : List It} (ag : agr r h Vc) : agr r (h.1, h.2.1, upV (lvO S (h.2.1 r) r j h.2.2.1) r j l, h.2.2.2) (upV (lvO S (h.2.1 r) r j Vc) r j l) := sorry
theorem kpt.one {l : List It} : kpt r h (h.1, h.2.1, upV (lvO S (h.2.1 r) r j h.2.2.1) r j l, h.2.2.2) Vc (upV (lvO S (h.2.1 r) r j Vc) r j l) := sorry
theorem c_fieldS {dp : Int} (hm : isM A cr ci cb) (c : CS S N T n A cr ci cb kS b q0 i0 u0 X μ k h Vc rc) (ag : agr r h Vc) (g : hG S h) (hr : r < h.1) (hj : j < fCt S (h.2.1 r)) (h2 : S 11 (h.2.1 r) j < 2) (h12 : S 12 (h.2.1 r) j ≠ 12) (hu : n + u0 ≤ cb) :
    cRs S N T n A cr ci cb kS b q0 i0 u0 (ab_run wc (d + 10) 547 0 [(2, 1), (2, A), (0, r), (0, j), (0, dp), (3, 0), (3, 0), (3, 0)] [] μ) μ (bsF S h.2.1 h.1) r rc k.2.1 X h Vc (xZf S N T n bd (xVal S N T n bd h K r j (0, []) k)) (fun k2 h' => xZd S N T n bd (xVal S N T n bd h K r j (0, []) k) k2 h' K) := sorry
end Cx
end
section
section Cx
variable {μ μ' μ'' : ab_M} {d : Nat} {T : Nat → Int} {n : Nat} {k k' k2 : Tok} {S : SF} {N : NF} {A cr ci cb kS b q0 i0 u0 bd : Nat} {h h' h'' : He} {K : List Fr} {X : Rsv} {Vc Vc' Vc'' : Nat → Nat → List It} {r j rc lo lo' : Nat} {key : Int × List Int}
def tF (μ : ab_M) (A base cnt : Nat) (told : List Nat) : Prop := ∀ j, j < cnt → μ (msA A 10) (base + j) = if j ∈ told then 1 else 0
theorem tF.to {base cnt : Nat} {told : List Nat} (t : tF μ A base cnt told) (f : frQ A lo μ μ') (l : base + cnt ≤ lo) : tF μ' A base cnt told := sorry
def PB (S : SF) (N : NF) (T : Nat → Int) (n A cr ci cb kS b q0 i0 u0 bd c : Nat) : Prop := ∀ (D : Nat) (μ : ab_M) (k : Tok) (h : He) (r f : Nat) (told : List Nat) (K : List Fr) (X : Rsv) (Vc : Nat → Nat → List It), 4 * c + 12 ≤ D → n < k.2.1 + c → CS S N T n A cr ci cb kS b q0 i0 u0 X μ k h Vc (recs K + 1) → agr r h Vc → xOK S (k, h, (0, r, f, told) :: K) → hG S h → tF μ A (bsF S h.2.1 r) (fCt S (h.2.1 r)) told → ¬ isSg k 125 → bd + recs K + 1 ≤ 12 →
  cRs S N T n A cr ci cb kS b q0 i0 u0 (ab_run wc D 553 52 [(2, 1), (2, A), (0, r), (0, (((bd + recs K + 1 : Nat) : Int))), (3, 0), (3, 0), (3, 0)] [] μ) μ (bsF S h.2.1 r) r (recs K) k.2.1 X h Vc (xFl S N T n bd (k, h, (0, r, f, told) :: K)) (fun k2 h' => xVd S N T n bd (k, h, (0, r, f, told) :: K) k2 h' K)
theorem c_takeRec {c' D : Nat} (ih : PB S N T n A cr ci cb kS b q0 i0 u0 bd c') (hD : 4 * c' + 12 ≤ D) (hc : n < k.2.1 + 1 + c') (z : isSg k 123) (hm : isM A cr ci cb) (c : CS S N T n A cr ci cb kS b q0 i0 u0 X μ k h Vc (recs K + 2)) (ag : agr r h Vc) (xo : ¬ 12 < bd + recs K + 1 → ∀ k', xOK S (k', h, (0, r, 0, []) :: K)) (g : hG S h) (tf : tF μ A (bsF S h.2.1 r) (fCt S (h.2.1 r)) []) :
    cRs S N T n A cr ci cb kS b q0 i0 u0 (ab_run wc D 553 0 [(2, 1), (2, A), (0, r), (0, (((bd + recs K + 1 : Nat) : Int))), (3, 0), (3, 0), (3, 0)] [] μ) μ (bsF S h.2.1 r) r (recs K) k.2.1 X h Vc (xZf S N T n bd (if 12 < bd + recs K + 1 then .inl (3, (k.2.1 : Int)) else match xAdv T n k with
      | .inl f => .inl f
      | .inr k' => .inr (k', h, (0, r, 0, []) :: K))) (fun k2 h' => xZd S N T n bd (if 12 < bd + recs K + 1 then .inl (3, (k.2.1 : Int)) else match xAdv T n k with
      | .inl f => .inl f
      | .inr k' => .inr (k', h, (0, r, 0, []) :: K)) k2 h' K) := sorry
end Cx
end
section
section Cx
variable {μ μ' μ'' : ab_M} {d : Nat} {T : Nat → Int} {n : Nat} {k k' k2 : Tok} {S : SF} {N : NF} {A cr ci cb kS b q0 i0 u0 bd : Nat} {h h' h'' : He} {K : List Fr} {X : Rsv} {Vc Vc' Vc'' : Nat → Nat → List It} {r j rc lo lo' : Nat} {key : Int × List Int}
theorem agr.nest {r' : Nat} {h1 : He} {Vc1 : Nat → Nat → List It} (a : agr r h1 Vc1) (q : kpt r' h1 h' Vc1 Vc') (g : agr r' h' Vc') : agr r h' Vc' := sorry
theorem cRs.nest {run : ab_R} {r' p p' : Nat} {h1 : He} {Vc1 : Nat → Nat → List It} {fl fl' : Flt → Prop} {dn dn' : Tok → He → Prop} (x : cRs S N T n A cr ci cb kS b q0 i0 u0 run μ' lo r' rc p X h1 Vc1 fl dn) (f : frQ A lo μ μ') (hp : p' ≤ p) (ag1 : agr r h1 Vc1) (hr : r ≤ r') (kp : kpt r h h1 Vc Vc1) (e1 : ∀ f, fl f → fl' f) (e2 : ∀ k h, dn k h → dn' k h) : cRs S N T n A cr ci cb kS b q0 i0 u0 run μ lo r rc p' X h Vc fl' dn' := sorry
theorem cRs.ret {run : ab_R} {p : Nat} {fl : Flt → Prop} {dn : Tok → He → Prop} (x : cRs S N T n A cr ci cb kS b q0 i0 u0 run μ lo r rc p X h Vc fl dn) : cRs S N T n A cr ci cb kS b q0 i0 u0 (ab_cal run 3 (fun r μ => some ((4, r), μ)) (fun _ μ => some ((3, 0), μ))) μ lo r rc p X h Vc fl dn := sorry
theorem xOK_rec (q : xK S h K) (hR : recs K + 1 ≤ 12) (hr : r < h.1) (tl : ∀ G ∈ K, G.1 = 0 → G.2.1 = r → j ∈ G.2.2.2) : xOK S (k, hRec S h r j key, (0, h.1, 0, []) :: K) := sorry
theorem c_fieldR {c' D : Nat} (ih : PB S N T n A cr ci cb kS b q0 i0 u0 bd c') (hD : 4 * c' + 13 ≤ D) (hc : n < k.2.1 + 1 + c') (hm : isM A cr ci cb) (c : CS S N T n A cr ci cb kS b q0 i0 u0 X μ k h Vc (recs K)) (ag : agr r h Vc) (g : hG S h) (q : xK S h K) (hR : recs K ≤ 12) (tl : ∀ G ∈ K, G.1 = 0 → G.2.1 = r → j ∈ G.2.2.2) (hr : r < h.1) (hj : j < fCt S (h.2.1 r)) (h2 : S 11 (h.2.1 r) j < 2) (h12 : S 12 (h.2.1 r) j = 12) (hq : n + q0 + 14 ≤ 2 * cr) (hb : bd ≤ 12) :
    cRs S N T n A cr ci cb kS b q0 i0 u0 (ab_run wc D 547 0 [(2, 1), (2, A), (0, r), (0, j), (0, (((bd + recs K : Nat) : Int))), (3, 0), (3, 0), (3, 0)] [] μ) μ (bsF S h.2.1 h.1) r (recs K) k.2.1 X h Vc (xZf S N T n bd (xVal S N T n bd h K r j (0, []) k)) (fun k2 h' => xZd S N T n bd (xVal S N T n bd h K r j (0, []) k) k2 h' K) := sorry
end Cx
end
section
section Cx
variable {μ μ' μ'' : ab_M} {d : Nat} {T : Nat → Int} {n : Nat} {k k' k2 : Tok} {S : SF} {N : NF} {A cr ci cb kS b q0 i0 u0 bd : Nat} {h h' h'' : He} {K : List Fr} {X : Rsv} {Vc Vc' Vc'' : Nat → Nat → List It} {r j rc lo lo' it us : Nat} {key : Int × List Int}
theorem CM.res {nr : Nat} {ty : Nat → Nat} {V : Nat → Nat → List It} {U : Nat → List Un} {ni nu us' so ks : Nat} {q : Nat × Nat × It} {t : It} (c : CM X S μ A cr ci cb nr ty V U ni nu us) (hx : X it = some q) (hu : us ≤ us') (hu2 : us' ≤ cb) (a1 : ∀ i, i ≠ 33 → μ' A i = μ A i) (a2 : μ' A 33 = us') (f : ∀ f x, msO f ≠ 0 → (itF f → f ≠ 22 → x ≠ it) → (f = 32 → x < us) → μ' (msA A f) x = μ (msA A f) x) (ht : cIt μ' A us' so ks it t) : CM (upL X it (some (so, ks, t))) S μ' A cr ci cb nr ty V U ni nu us' := sorry
def itS (T : Nat → Int) (n A us it : Nat) (q : Int) (k : Tok) (v : Int) (l : List Int) (k2 : Tok) (μ μ' : ab_M) : Prop := ∃ μ1 us', frP μ μ1 ∧ cT μ1 T n k2 ∧ (l.length + k.2.1 ≤ k2.2.1 ∧ k.2.1 < k2.2.1 ∧ l.length ≤ 60 ∧ (q ≠ 9 ∧ q ≠ 10 → l = []) ∧ (q = 9 ∨ q = 10 → v = 0) ∧ lng v ∧ byt l) ∧ (us ≤ us' ∧ us' ≤ us + l.length ∧ (∀ i, i ≠ 33 → μ' A i = μ1 A i) ∧ μ' A 33 = us') ∧ (fSo q = 0 → μ' (msA A 18) it = v) ∧ (fSo q = 1 → cMt μ' A us' 19 20 it l) ∧ (∀ f x, msO f ≠ 0 → (itF f → f ≠ 22 → f ≠ 23 → f ≠ 24 → f ≠ 25 → x ≠ it) → (f = 32 → x < us) → μ' (msA A f) x = μ1 (msA A f) x) ∧ ∀ a, ¬ inM A a → ∀ i, μ' a i = μ1 a i
theorem c_itemS {F : Nat} {q x dp : Int} {t : Nat} (hm : isM A cr ci cb) (ct : cT μ T n k) (ms : cMS μ A kS b S N) (hF : wc_ob F 8 = true) (hF2 : F < 6314 ∧ 11 ≤ F) (hF3 : ¬ inM A F) (e3 : μ F 3 = 200000 + q) (e4 : μ F 4 = x) (q1 : 0 ≤ q) (q2 : q ≤ 11) (ht : q = 11 → x = t ∧ (t : Int) < S 0 0 0 ∧ S 2 t 0 = 0) (hi : it < ci) (h33 : μ A 33 = us) (hu : n + u0 ≤ cb) (b3 : us ≤ k.2.1 + u0) :
    (∀ f, xPl S N T n q t k = .inl f → Rf (ab_run wc (d + 10) 549 0 [(2, 1), (2, A), (0, it), (2, F), (0, dp)] [] μ) μ f.1 f.2) ∧ ∀ p, xPl S N T n q t k = .inr p → R3 (ab_run wc (d + 10) 549 0 [(2, 1), (2, A), (0, it), (2, F), (0, dp)] [] μ) (itS T n A us it q k p.1 p.2.1 p.2.2 μ) := sorry
end Cx
end
section
section Cx
variable {μ μ' μ'' : ab_M} {d : Nat} {T : Nat → Int} {n : Nat} {k k' k2 : Tok} {S : SF} {N : NF} {A cr ci cb kS b q0 i0 u0 bd : Nat} {h h' h'' : He} {K : List Fr} {X : Rsv} {Vc Vc' Vc'' : Nat → Nat → List It} {r j rc lo lo' it us : Nat} {key : Int × List Int}
theorem fd_rg {t : Nat} (hb : isS b) (ht : t < 30) (hj : j < 24) : (11 ≤ fdA b t j ∧ fdA b t j < 1251) ∨ (1354 ≤ fdA b t j ∧ fdA b t j < 6314) := sorry
theorem fd_nm {t : Nat} (hm : isM A cr ci cb) (hb : isS b) (ht : t < 30) (hj : j < 24) : ¬ inM A (fdA b t j) := sorry
theorem CM.x0 {nr : Nat} {ty : Nat → Nat} {V : Nat → Nat → List It} {U : Nat → List Un} {ni nu : Nat} (c : CM X S μ A cr ci cb nr ty V U ni nu us) : X ni = none := sorry
theorem bsF_eq {ty ty' : Nat → Nat} : ∀ r, (∀ a, a < r → ty' a = ty a) → bsF S ty' r = bsF S ty r := sorry
theorem bsF_mono {ty : Nat → Nat} : ∀ r r', r ≤ r' → bsF S ty r ≤ bsF S ty r' := sorry
theorem kpt.bs (q : kpt r h h' Vc Vc') : bsF S h.2.1 h.1 ≤ bsF S h'.2.1 h'.1 ∧ ∀ a, a ≤ h.1 → bsF S h'.2.1 a = bsF S h.2.1 a := sorry
theorem xPl_bad {q : Int} {t : Nat} (z : k.1 = 5) (nb : ¬ bgV k) : xPl S N T n q t k = .inl (2, (k.2.1 : Int)) := sorry
def cIL (S : SF) (N : NF) (T : Nat → Int) (n A cr ci cb kS b q0 i0 u0 : Nat) (run : ab_R) (μ : ab_M) (lo r j it rc p : Nat) (X : Rsv) (h : He) (Vc : Nat → Nat → List It) (fl : Flt → Prop) (dn : Tok → He → Prop) : Prop :=
  (∃ f, fl f ∧ RfQ run A μ f) ∨ R3 run (fun μ' => ∃ k2 h' Vc' t, dn k2 h' ∧ CS S N T n A cr ci cb kS b q0 i0 u0 (upL X it (some (fSo (S 12 (h.2.1 r) j), fKs (S 11 (h.2.1 r) j) (S 14 (h.2.1 r) j), t))) μ' k2 h' Vc' rc ∧ agr r h' (upV Vc' r j (Vc' r j ++ [t])) ∧ kpt r h h' Vc Vc' ∧ hG S h' ∧ p < k2.2.1 ∧ frQ A lo μ μ')
theorem c_itemL {c' D : Nat} (ih : PB S N T n A cr ci cb kS b q0 i0 u0 bd c') (hD : 4 * c' + 13 ≤ D) (hc : n < k.2.1 + 1 + c') (hm : isM A cr ci cb) (c : CS S N T n A cr ci cb kS b q0 i0 u0 X μ k h Vc (recs K)) (ag : agr r h Vc) (g : hG S h) (q : xK S h K) (hR : recs K ≤ 12) (tl : ∀ G ∈ K, G.1 = 0 → G.2.1 = r → j ∈ G.2.2.2) (hr : r < h.1) (hj : j < fCt S (h.2.1 r)) (h2 : S 11 (h.2.1 r) j = 2) (hx : X it = some (3, 0, itN 0)) (hq : n + q0 + 14 ≤ 2 * cr) (hu : n + u0 ≤ cb) (hb : bd ≤ 12) :
    cIL S N T n A cr ci cb kS b q0 i0 u0 (ab_run wc D 549 0 [(2, 1), (2, A), (0, it), (2, (fdA b (h.2.1 r) j)), (0, (((bd + recs K : Nat) : Int)))] [] μ) μ (bsF S h.2.1 h.1) r j it (recs K) k.2.1 X h Vc (xZf S N T n bd (xVal S N T n bd h K r j (0, []) k)) (fun k2 h' => xZd S N T n bd (xVal S N T n bd h K r j (0, []) k) k2 h' K) := sorry
end Cx
end
section
section Cx
variable {μ μ' μ'' : ab_M} {d : Nat} {T : Nat → Int} {n : Nat} {k k' k2 : Tok} {S : SF} {N : NF} {A cr ci cb kS b q0 i0 i1 u0 bd : Nat} {h h' h'' : He} {K : List Fr} {X : Rsv} {Vc Vc' Vc'' : Nat → Nat → List It} {r j rc lo lo' it us : Nat} {key : Int × List Int}
theorem c_itemBad {F D : Nat} {q x dp : Int} {t : Nat} (hD : 10 ≤ D) (hm : isM A cr ci cb) (ct : cT μ T n k) (ms : cMS μ A kS b S N) (hF : wc_ob F 8 = true) (e3 : μ F 3 = 200000 + q) (e4 : μ F 4 = x) (q1 : 0 ≤ q) (q2 : q ≤ 12) (ht : q = 11 → x = t ∧ (t : Int) < S 0 0 0 ∧ S 2 t 0 = 0) (z : k.1 = 5) (nb : ¬ bgV k) : Rf (ab_run wc D 549 0 [(2, 1), (2, A), (0, it), (2, F), (0, dp)] [] μ) μ 2 k.2.1 := sorry
theorem upL_3 {a c : Option (Nat × Nat × It)} (e : X it = none) : upL (upL (upL X it a) it c) it none = X := sorry
theorem c_list71bad {D s : Nat} {dp : Int} (hD : 14 ≤ D) (hm : isM A cr ci cb) (hi : n + i0 < ci) (hi1 : i1 + 1 = i0) (c : CS S N T n A cr ci cb kS b q0 i1 u0 X μ k h Vc rc) (hr : r < h.1) (hj : j < fCt S (h.2.1 r)) (z : isSg k 93) : RfQ (ab_run wc D 547 71 [(2, 1), (2, A), (3, 0), (3, 0), (0, dp), (2, (fdA b (h.2.1 r) j)), (0, s), (3, 0)] [] μ) A μ (2, (k.2.1 : Int)) := sorry
theorem xTo.ok : ∀ {X Y : Xs}, xTo S N T n bd X Y → xOK S X → xOK S Y := sorry
theorem c_list71 {c' D s : Nat} (ih : PB S N T n A cr ci cb kS b q0 i0 u0 bd c') (hD : 4 * c' + 14 ≤ D) (hm : isM A cr ci cb) (hq : n + q0 + 14 ≤ 2 * cr) (hi : n + i0 < ci) (hi1 : i1 + 1 = i0) (hu : n + u0 ≤ cb) (hb : bd ≤ 12) (hR : recs K ≤ 12) : ∀ (m : Nat) (μ : ab_M) (k : Tok) (h : He) (Vc : Nat → Nat → List It), n < k.2.1 + m → n < k.2.1 + 1 + c' → CS S N T n A cr ci cb kS b q0 i1 u0 X μ k h Vc (recs K) → agr r h Vc → hG S h → xK S h ((1, r, j, []) :: K) → lo ≤ bsF S h.2.1 h.1 → s = bsF S h.2.1 r + j →
    ¬ isSg k 93 → cRs S N T n A cr ci cb kS b q0 i0 u0 (ab_run wc D 547 71 [(2, 1), (2, A), (3, 0), (3, 0), (0, (((bd + recs K : Nat) : Int))), (2, (fdA b (h.2.1 r) j)), (0, s), (3, 0)] [] μ) μ lo r (recs K) k.2.1 X h Vc (xFl S N T n bd (k, h, (1, r, j, []) :: K)) (fun k2 h' => xVd S N T n bd (k, h, (1, r, j, []) :: K) k2 h' K) := sorry
end Cx
end
section
section Cx
variable {μ μ' μ'' : ab_M} {d : Nat} {T : Nat → Int} {n : Nat} {k k' k2 : Tok} {S : SF} {N : NF} {A cr ci cb kS b q0 i0 i1 u0 bd : Nat} {h h' h'' : He} {K : List Fr} {X : Rsv} {Vc Vc0 Vc' Vc'' : Nat → Nat → List It} {r j rc lo lo' it us : Nat} {key : Int × List Int}
theorem c_fieldL {c' D : Nat} (ih : PB S N T n A cr ci cb kS b q0 i0 u0 bd c') (hD : 4 * c' + 14 ≤ D) (hc : n < k.2.1 + 1 + c') (hm : isM A cr ci cb) (c : CS S N T n A cr ci cb kS b q0 i0 u0 X μ k h Vc0 (recs K)) (eV : upV Vc0 r j [] = Vc) (ag : agr r h Vc) (g : hG S h) (q : xK S h K) (hR : recs K ≤ 12) (tp : K = [] ∨ ∃ G K', K = G :: K' ∧ G.1 = 0 ∧ G.2.1 = r ∧ j ∈ G.2.2.2) (hr : r < h.1) (hj : j < fCt S (h.2.1 r)) (h2 : S 11 (h.2.1 r) j = 2) (hq : n + q0 + 14 ≤ 2 * cr) (hi : n + i0 < ci) (hi1 : i1 + 1 = i0) (hu : n + u0 ≤ cb) (hb : bd ≤ 12) :
    cRs S N T n A cr ci cb kS b q0 i0 u0 (ab_run wc D 547 0 [(2, 1), (2, A), (0, r), (0, j), (0, (((bd + recs K : Nat) : Int))), (3, 0), (3, 0), (3, 0)] [] μ) μ (bsF S h.2.1 h.1) r (recs K) k.2.1 X h Vc (xZf S N T n bd (xOpn S N T n bd h K r j k)) (fun k2 h' => xZd S N T n bd (xOpn S N T n bd h K r j k) k2 h' K) := sorry
end Cx
end
section
section Cx
variable {μ μ' μ'' : ab_M} {d : Nat} {T : Nat → Int} {n : Nat} {k k' k2 : Tok} {S : SF} {N : NF} {A cr ci cb kS b q0 i0 i1 u0 bd : Nat} {h h' h'' : He} {K : List Fr} {X : Rsv} {Vc Vc' Vc'' : Nat → Nat → List It} {r j rc lo lo' it us : Nat} {key : Int × List Int}
theorem set_mid {α : Type} {a c : List α} {x y : α} : (a ++ x :: c).set a.length y = a ++ y :: c := sorry
theorem get_mid {α : Type} {a c : List α} {x : α} : (a ++ x :: c)[a.length]? = some x := sorry
abbrev kIn (kk : Int) (key : Int × List Int) (L : List It) (t : It) : List It := kTk kk key.1 key.2 L ++ t :: kDp kk key.1 key.2 L
theorem hG_key {t : It} (g : hG S h) (hr : r < h.1) (hj : j < fCt S (h.2.1 r)) (m3 : S 11 (h.2.1 r) j = 3) (hk : byt key.2 ∧ lng key.1) (e1 : t.1 = key.1) (e2 : t.2.1 = key.2) (nk : ¬ kyB (S 14 (h.2.1 r) j) key (h.2.2.1 r j) = true) : (∀ q ∈ kIn (S 14 (h.2.1 r) j) key (h.2.2.1 r j) t, (S 11 (h.2.1 r) j ≠ 3 → q.1 = 0 ∧ q.2.1 = []) ∧ byt q.2.1 ∧ lng q.1) ∧ srt (S 14 (h.2.1 r) j) (kIn (S 14 (h.2.1 r) j) key (h.2.2.1 r j) t) := sorry
theorem c_itemM {c' D s : Nat} (ih : PB S N T n A cr ci cb kS b q0 i0 u0 bd c') (hD : 4 * c' + 13 ≤ D) (hc : n < k.2.1 + 1 + c') (hm : isM A cr ci cb) (c : CS S N T n A cr ci cb kS b q0 i0 u0 X μ k h (upV Vc r j (kIn (S 14 (h.2.1 r) j) key (h.2.2.1 r j) (kyI (S 14 (h.2.1 r) j) key.1 key.2))) (recs K)) (hit : itm μ A s (kTk (S 14 (h.2.1 r) j) key.1 key.2 (h.2.2.1 r j)).length = it) (hs : s = bsF S h.2.1 r + j) (ag : agr r h Vc) (g : hG S h) (q : xK S h K) (hR : recs K ≤ 12) (tl : ∀ G ∈ K, G.1 = 0 → G.2.1 = r → j ∈ G.2.2.2) (hr : r < h.1) (hj : j < fCt S (h.2.1 r)) (m3 : S 11 (h.2.1 r) j = 3) (hk : byt key.2 ∧ lng key.1 ∧ kyE (S 14 (h.2.1 r) j) key = key) (nk : ¬ kyB (S 14 (h.2.1 r) j) key (h.2.2.1 r j) = true) (hq : n + q0 + 14 ≤ 2 * cr) (hu : n + u0 ≤ cb) (hb : bd ≤ 12) :
    cRs S N T n A cr ci cb kS b q0 i0 u0 (ab_run wc D 549 0 [(2, 1), (2, A), (0, it), (2, (fdA b (h.2.1 r) j)), (0, (((bd + recs K : Nat) : Int)))] [] μ) μ (bsF S h.2.1 h.1) r (recs K) k.2.1 X h Vc (xZf S N T n bd (xVal S N T n bd h K r j key k)) (fun k2 h' => xZd S N T n bd (xVal S N T n bd h K r j key k) k2 h' K) := sorry
end Cx
end
section
section Cx
variable {μ μ' μ'' : ab_M} {d : Nat} {T : Nat → Int} {n : Nat} {k k' k2 : Tok} {S : SF} {N : NF} {A cr ci cb kS b q0 i0 i1 u0 bd : Nat} {h h' h'' : He} {K : List Fr} {X : Rsv} {Vc Vc' Vc'' : Nat → Nat → List It} {r j rc lo lo' it us : Nat} {key : Int × List Int}
theorem kyC_v {kk v v' : Int} {l : List Int} (e : kk ≠ 9 → v' = v) (t : It) : kyC kk t v' l = kyC kk t v l := sorry
theorem kTk_v {kk v v' : Int} {l : List Int} (e : kk ≠ 9 → v' = v) : ∀ L : List It, kTk kk v' l L = kTk kk v l L ∧ kDp kk v' l L = kDp kk v l L := sorry
theorem kyI_v {kk v v' : Int} {l : List Int} (e : kk ≠ 9 → v' = v) : kyI kk v' l = kyI kk v l := sorry
theorem rdS_bad {q : Int} {t : Nat} (z : k.1 = 5) (nb : ¬ bgV k) : rdS S N T n q t k = .inl (2, (k.2.1 : Int)) := sorry
theorem c_map38bad {D s : Nat} {dp : Int} (hD : 14 ≤ D) (hm : isM A cr ci cb) (c : CS S N T n A cr ci cb kS b q0 i0 u0 X μ k h Vc rc) (hr : r < h.1) (hj : j < fCt S (h.2.1 r)) (m3 : S 11 (h.2.1 r) j = 3) (z : isSg k 62) : RfQ (ab_run wc D 551 38 [(2, 1), (2, A), (0, s), (2, (fdA b (h.2.1 r) j)), (0, dp), (3, 0), (3, 0)] [] μ) A μ (2, (k.2.1 : Int)) := sorry
theorem c_map38 {c' D s : Nat} (ih : PB S N T n A cr ci cb kS b q0 i0 u0 bd c') (hD : 4 * c' + 14 ≤ D) (hm : isM A cr ci cb) (hq : n + q0 + 14 ≤ 2 * cr) (hi : n + i0 < ci) (hu : n + u0 ≤ cb) (hb : bd ≤ 12) (hR : recs K ≤ 12) : ∀ (m : Nat) (μ : ab_M) (k : Tok) (h : He) (Vc : Nat → Nat → List It), n < k.2.1 + m → n < k.2.1 + 1 + c' → CS S N T n A cr ci cb kS b q0 i0 u0 X μ k h Vc (recs K) → agr r h Vc → hG S h → xK S h ((2, r, j, []) :: K) → lo ≤ bsF S h.2.1 h.1 → s = bsF S h.2.1 r + j →
    ¬ isSg k 62 → cRs S N T n A cr ci cb kS b q0 i0 u0 (ab_run wc D 551 38 [(2, 1), (2, A), (0, s), (2, (fdA b (h.2.1 r) j)), (0, (((bd + recs K : Nat) : Int))), (3, 0), (3, 0)] [] μ) μ lo r (recs K) k.2.1 X h Vc (xFl S N T n bd (k, h, (2, r, j, []) :: K)) (fun k2 h' => xVd S N T n bd (k, h, (2, r, j, []) :: K) k2 h' K) := sorry
end Cx
end
section
section Cx
variable {μ μ' μ'' : ab_M} {d : Nat} {T : Nat → Int} {n : Nat} {k k' k2 : Tok} {S : SF} {N : NF} {A cr ci cb kS b q0 i0 i1 u0 bd : Nat} {h h' h'' : He} {K : List Fr} {X : Rsv} {Vc Vc0 Vc' Vc'' : Nat → Nat → List It} {r j rc lo lo' it us : Nat} {key : Int × List Int}
theorem c_fieldM {c' D : Nat} (ih : PB S N T n A cr ci cb kS b q0 i0 u0 bd c') (hD : 4 * c' + 15 ≤ D) (hc : n < k.2.1 + 1 + c') (hm : isM A cr ci cb) (c : CS S N T n A cr ci cb kS b q0 i0 u0 X μ k h Vc0 (recs K)) (eV : upV Vc0 r j [] = Vc) (ag : agr r h Vc) (g : hG S h) (q : xK S h K) (hR : recs K ≤ 12) (tp : K = [] ∨ ∃ G K', K = G :: K' ∧ G.1 = 0 ∧ G.2.1 = r ∧ j ∈ G.2.2.2) (hr : r < h.1) (hj : j < fCt S (h.2.1 r)) (m3 : S 11 (h.2.1 r) j = 3) (hq : n + q0 + 14 ≤ 2 * cr) (hi : n + i0 < ci) (hu : n + u0 ≤ cb) (hb : bd ≤ 12) :
    cRs S N T n A cr ci cb kS b q0 i0 u0 (ab_run wc D 547 0 [(2, 1), (2, A), (0, r), (0, j), (0, (((bd + recs K : Nat) : Int))), (3, 0), (3, 0), (3, 0)] [] μ) μ (bsF S h.2.1 h.1) r (recs K) k.2.1 X h Vc (xZf S N T n bd (xOpn S N T n bd h K r j k)) (fun k2 h' => xZd S N T n bd (xOpn S N T n bd h K r j k) k2 h' K) := sorry
theorem c_anyField {c' D : Nat} (ih : PB S N T n A cr ci cb kS b q0 i0 u0 bd c') (hD : 4 * c' + 15 ≤ D) (hc : n < k.2.1 + 1 + c') (hm : isM A cr ci cb) (c : CS S N T n A cr ci cb kS b q0 i0 u0 X μ k h Vc (recs K)) (ag : agr r h Vc) (g : hG S h) (q : xK S h K) (hR : recs K ≤ 12) (tp : K = [] ∨ ∃ G K', K = G :: K' ∧ G.1 = 0 ∧ G.2.1 = r ∧ j ∈ G.2.2.2) (tl : ∀ G ∈ K, G.1 = 0 → G.2.1 = r → j ∈ G.2.2.2) (hr : r < h.1) (hj : j < fCt S (h.2.1 r)) (hv : h.2.2.1 r j = []) (hq : n + q0 + 14 ≤ 2 * cr) (hi : n + i0 < ci) (hi0 : 1 ≤ i0) (hu : n + u0 ≤ cb) (hb : bd ≤ 12) :
    cRs S N T n A cr ci cb kS b q0 i0 u0 (ab_run wc D 547 0 [(2, 1), (2, A), (0, r), (0, j), (0, (((bd + recs K : Nat) : Int))), (3, 0), (3, 0), (3, 0)] [] μ) μ (bsF S h.2.1 h.1) r (recs K) k.2.1 X h Vc (xZf S N T n bd (xOpn S N T n bd h K r j k)) (fun k2 h' => xZd S N T n bd (xOpn S N T n bd h K r j k) k2 h' K) := sorry
theorem c_putField {c' D : Nat} (ih : PB S N T n A cr ci cb kS b q0 i0 u0 bd c') (hD : 4 * c' + 15 ≤ D) (hc : n < k.2.1 + 1 + c') (hm : isM A cr ci cb) (c : CS S N T n A cr ci cb kS b q0 i0 u0 X μ k h Vc0 0) (eV : (if 2 ≤ S 11 (h.2.1 r) j then upV Vc0 r j [] else Vc0) = Vc) (ag : agr r h Vc) (g : hG S h) (hr : r < h.1) (hj : j < fCt S (h.2.1 r)) (hq : n + q0 + 14 ≤ 2 * cr) (hi : n + i0 < ci) (hi0 : 1 ≤ i0) (hu : n + u0 ≤ cb) (hb : bd ≤ 12) :
    cRs S N T n A cr ci cb kS b q0 i0 u0 (ab_run wc D 547 0 [(2, 1), (2, A), (0, r), (0, j), (0, (((bd : Nat) : Int))), (3, 0), (3, 0), (3, 0)] [] μ) μ (bsF S h.2.1 h.1) r 0 k.2.1 X h Vc (xZf S N T n bd (xOpn S N T n bd h [] r j k)) (fun k2 h' => xZd S N T n bd (xOpn S N T n bd h [] r j k) k2 h' []) := sorry
end Cx
end
section
section Cx
variable {μ μ' μ'' : ab_M} {d : Nat} {T : Nat → Int} {n : Nat} {k k' k2 : Tok} {S : SF} {N : NF} {A cr ci cb kS b q0 i0 i1 u0 bd : Nat} {h h' h'' : He} {K : List Fr} {X : Rsv} {Vc Vc' Vc'' : Nat → Nat → List It} {r j rc lo lo' it us : Nat} {key : Int × List Int}
def cAg (S : SF) (t j : Nat) (told : List Nat) : Nat → Nat → Bool
  | 0, _ => false
  | c + 1, i => decide (i ∈ told ∧ (i = j ∨ 0 ≤ S 15 t j ∧ S 15 t i = S 15 t j)) || cAg S t j told c (i + 1)
theorem cAg_iff {t : Nat} {told : List Nat} : ∀ c i, cAg S t j told c i = true ↔ ∃ g ∈ told, i ≤ g ∧ g < i + c ∧ (g = j ∨ 0 ≤ S 15 t j ∧ S 15 t g = S 15 t j) := sorry
theorem cAg_ag {t : Nat} {told : List Nat} (hj : j < fCt S t) (ht : ∀ g ∈ told, g < fCt S t) : cAg S t j told (fCt S t) 0 = true ↔ agB S t j told = true := sorry
theorem c_121 {dp : Int} {told : List Nat} (hm : isM A cr ci cb) (cs : CS S N T n A cr ci cb kS b q0 i0 u0 X μ k h Vc rc) (hr : r < h.1) (hj : j < fCt S (h.2.1 r)) (tf : tF μ A (bsF S h.2.1 r) (fCt S (h.2.1 r)) told) : ∀ (c i : Nat), i + c = fCt S (h.2.1 r) →
    (cAg S (h.2.1 r) j told c i = true → (ab_run wc (d + 2) 553 121 [(2, 1), (2, A), (0, r), (0, dp), (2, (tyA b (h.2.1 r))), (0, j), (0, i)] [] μ) = some ((4, 2), ab_up (ab_up μ 2 6 4) 2 7 k.2.1)) ∧ (¬ cAg S (h.2.1 r) j told c i = true → (ab_run wc (d + 2) 553 121 [(2, 1), (2, A), (0, r), (0, dp), (2, (tyA b (h.2.1 r))), (0, j), (0, i)] [] μ) = (ab_run wc (d + 2) 553 121 [(2, 1), (2, A), (0, r), (0, dp), (2, (tyA b (h.2.1 r))), (0, j), (0, ((fCt S (h.2.1 r) : Nat)))] [] μ)) := sorry
end Cx
end
section
section Cx
variable {μ μ' μ'' : ab_M} {d : Nat} {T : Nat → Int} {n : Nat} {k k' k2 : Tok} {S : SF} {N : NF} {A cr ci cb kS b q0 i0 i1 u0 bd : Nat} {h h' h'' : He} {K : List Fr} {X : Rsv} {Vc Vc' Vc'' : Nat → Nat → List It} {r j rc lo lo' it us : Nat} {key : Int × List Int}
theorem CM.t10 {nr : Nat} {ty : Nat → Nat} {U : Nat → List Un} {ni nu x : Nat} {v : Int} (c : CM X S μ A cr ci cb nr ty Vc U ni nu us) : CM X S (ab_up μ (msA A 10) x v) A cr ci cb nr ty Vc U ni nu us := sorry
theorem c_52bad {D : Nat} {dp : Int} (hD : 14 ≤ D) (hm : isM A cr ci cb) (ct : cT μ T n k) (z : k.1 ≠ 1) : RfQ (ab_run wc D 553 52 [(2, 1), (2, A), (0, r), (0, dp), (3, 0), (3, 0), (3, 0)] [] μ) A μ (2, (k.2.1 : Int)) := sorry
theorem c_PB (hm : isM A cr ci cb) (hq : n + q0 + 14 ≤ 2 * cr) (hi : n + i0 < ci) (hi0 : 1 ≤ i0) (hu : n + u0 ≤ cb) (hb : bd ≤ 12) : ∀ c, PB S N T n A cr ci cb kS b q0 i0 u0 bd c := sorry
end Cx
end
section
section Xc
variable {T : Nat → Int} {n : Nat} {k k2 k3 : Tok} {S : SF} {N : NF} {bd : Nat} {h h' : He} {K K' : List Fr} {X Y Z : Xs} {f : Flt} {W : Flt ⊕ Xs} {key : Int × List Int} {r j : Nat}
theorem xAdv_tk (hT : ∀ k, k < n → 0 ≤ T k ∧ T k < 256) (t : tkO T n k) (e : xAdv T n k = .inr k2) : tkO T n k2 ∧ k.2.2.1 ≤ k2.2.1 := sorry
theorem xBeh_tk (hT : ∀ k, k < n → 0 ≤ T k ∧ T k < 256) (t : tkO T n k) (e : xBeh T n K k = .inr k2) : tkO T n k2 ∧ k.2.1 ≤ k2.2.1 := sorry
theorem rdS_tk {q : Int} {t : Nat} {p : Int × List Int × Tok} (hT : ∀ k, k < n → 0 ≤ T k ∧ T k < 256) (tk : tkO T n k) (e : rdS S N T n q t k = .inr p) : tkO T n p.2.2 ∧ k.2.1 ≤ p.2.2.2.1 ∧ p.2.2.1 ≠ 0 := sorry
theorem xWnt_tk {c : Int} (hT : ∀ k, k < n → 0 ≤ T k ∧ T k < 256) (t : tkO T n k) (e : xWnt T n c k = .inr k2) : tkO T n k2 ∧ k.2.2.1 ≤ k2.2.1 := sorry
theorem xVal_tk (hT : ∀ k, k < n → 0 ≤ T k ∧ T k < 256) (t : tkO T n k) (e : xVal S N T n bd h K r j key k = .inr X) : tkO T n X.1 ∧ k.2.1 < X.1.2.1 := sorry
theorem xStep_tk (hT : ∀ k, k < n → 0 ≤ T k ∧ T k < 256) (t : tkO T n X.1) (ne : X.2.2 ≠ []) (e : xStep S N T n bd X = .inr Y) : tkO T n Y.1 ∧ X.1.2.1 < Y.1.2.1 := sorry
theorem xIt_of_to (hT : ∀ k, k < n → 0 ≤ T k ∧ T k < 256) : ∀ (m c : Nat) (X : Xs), tkO T n X.1 → n < X.1.2.1 + c → xN S N T n bd m X = some Y → Y.2.2 = [] → xIt S N T n bd c X = .inr Y := sorry
theorem xIt_of_fl (hT : ∀ k, k < n → 0 ≤ T k ∧ T k < 256) : ∀ (m c : Nat) (X : Xs), tkO T n X.1 → n < X.1.2.1 + c → xN S N T n bd m X = some Y → xStep S N T n bd Y = .inl f → xIt S N T n bd c X = .inl f := sorry
end Xc
end
section
section Nm
variable {μ μ' : ab_M} {d : Nat} {A b : Nat} {S : SF} {N : NF}
def tyC (S : SF) : Nat := (S 0 0 0).toNat
def tyFd (S : SF) (N : NF) (nm : List Int) : Int := nFd (fun i => N 0 i 0) nm (tyC S) 0
theorem c_item60 {a o la : Nat} {nm : List Int} (hb : isS b) (ok : scOK S N) (hc : cSc μ b S N) (ha : wc_ar a = (4, la)) (ho : o + nm.length ≤ la) (hla : la < 100000) (hn : cBy μ a o nm) : ∀ (m i : Nat), i + m = (S 1 0 0).toNat → ∃ x : Int, (ab_run wc (d + 2) 688 60 [(2, b), (2, a), (0, o), (0, (nm.length)), (0, i)] [] μ) = some ((0, x), μ) ∧ (x < 0 ∨ 1000 ≤ x) := sorry
theorem c_item3 {a o la : Nat} {nm : List Int} (hb : isS b) (ok : scOK S N) (hc : cSc μ b S N) (ha : wc_ar a = (4, la)) (ho : o + nm.length ≤ la) (hla : la < 100000) (hn : cBy μ a o nm) : ∀ (m i : Nat), i + m = tyC S → (ab_run wc (d + 2) 688 3 [(2, b), (2, a), (0, o), (0, (nm.length)), (0, i)] [] μ) = if nFd (fun i => N 0 i 0) nm m i < 0 then (ab_run wc (d + 2) 688 60 [(2, b), (2, a), (0, o), (0, (nm.length)), (0, 0)] [] μ) else some ((0, nFd (fun i => N 0 i 0) nm m i), μ) := sorry
theorem c_typeNamed {a o la : Nat} {nm : List Int} (hb : isS b) (ok : scOK S N) (hc : cSc μ b S N) (ha : wc_ar a = (4, la)) (ho : o + nm.length ≤ la) (hla : la < 100000) (hn : cBy μ a o nm) : ∃ x : Int, (ab_run wc (d + 2) 688 0 [(2, b), (2, a), (0, o), (0, (nm.length)), (3, 0)] [] μ) = some ((0, x), μ) ∧ (tyFd S N nm < 0 → x < 0 ∨ 1000 ≤ x) ∧ (¬ tyFd S N nm < 0 → x = tyFd S N nm) := sorry
theorem tw_findTypeL {s : Nat} {nm : List Int} (ts : TS μ s S N) (hn : nmT nm) : ∀ (m i : Nat), i + m = tyC S → (ab_run wt (d + 1) 66 3 [(2, 7756), (0, s), (1, (nmk nm 0 8)), (3, 0), (1, (nmk nm 8 8)), (3, 0), (0, i)] [] μ) = some ((0, if nFd (fun i => N 0 i 0) nm m i < 0 then -2 else nFd (fun i => N 0 i 0) nm m i), μ) := sorry
theorem tw_findType {s : Nat} {nm : List Int} (ts : TS μ s S N) (hn : nmT nm) : (ab_run wt (d + 1) 66 0 [(2, 7756), (0, s), (1, (nmk nm 0 8)), (3, 0), (1, (nmk nm 8 8)), (3, 0), (3, 0)] [] μ) = some ((0, if tyFd S N nm < 0 then -2 else tyFd S N nm), μ) := sorry
end Nm
end
section
section Xt
variable {μ μ' μ'' : ab_M} {d : Nat} {T : Nat → Int} {n : Nat} {k : Tok} {S : SF} {N : NF} {m s bd : Nat} {h h' : He} {K K' : List Fr} {al : Nat → Bool} {ε : Nat → Nat} {uM pM r j e : Nat}
def hNew (t : Nat) : He := (1, fun _ => t, fun _ _ => [], fun _ => [])
noncomputable def xRc (S : SF) (N : NF) (T : Nat → Int) (n t : Nat) (k1 : Tok) : Flt ⊕ Xs := if isSg k1 123 then (match xAdv T n k1 with
    | .inl f => .inl f
    | .inr k2 => xIt S N T n 0 (n + 1) (k2, hNew t, [(0, 0, 0, [])]))
  else .inl (nvF k1)
noncomputable def xRm (S : SF) (N : NF) (T : Nat → Int) (n : Nat) : Flt ⊕ Xs := match lx T n 0 with
  | none => .inl (1, (lxB T n false 0 : Int))
  | some k => if k.1 = 1 then
      (if tyFd S N (tkN T k) < 0 ∨ S 2 (tyFd S N (tkN T k)).toNat 0 = 0 then .inl (5, (k.2.1 : Int)) else match xAdv T n k with
      | .inl f => .inl f
      | .inr k1 => xRc S N T n (tyFd S N (tkN T k)).toNat k1)
    else .inl (2, (k.2.1 : Int))
def frR (m : Nat) (μ μ' : ab_M) : Prop := ∀ a i, ¬ mine m a i → (a ≠ 7863 ∨ i ≠ m) → (a ≠ 7864 ∨ i ≠ m) → a ≠ 7761 → a ≠ 7883 → a ≠ 7881 → a ≠ 7882 → a ≠ 7884 → (a ≠ 7756 ∨ (i < 7 ∨ 18 < i) ∧ (i < 154 ∨ 167 < i) ∧ i ≠ 168) → μ' a i = μ a i
theorem frR.trans (f : frR m μ μ') (g : frR m μ' μ'') : frR m μ μ'' := sorry
theorem frZ.rr (f : frZ m μ μ') : frR m μ μ' := sorry
theorem frL.rr (f : frL μ μ') : frR m μ μ' := sorry
theorem tyFd_rg {nm : List Int} (z : ¬ tyFd S N nm < 0) : ∃ t : Nat, tyFd S N nm = t ∧ t < tyC S ∧ N 0 t 0 = nm := sorry
theorem xOK_new {t : Nat} : xOK S (k, hNew t, [(0, 0, 0, [])]) := sorry
def TXp (S : SF) (N : NF) (m s bd : Nat) (μ : ab_M) (h : He) (al : Nat → Bool) (ε : Nat → Nat) (uM pM : Nat) : Prop := TS μ s S N ∧ TM S μ m s h.1 al h.2.1 h.2.2.1 h.2.2.2 ε uM pM ∧ TC S μ m h.1 al h.2.1 h.2.2.1 h.2.2.2 ∧ μ 7756 168 = bd ∧ hI S h ∧ noOr S h.1 al h.2.1 h.2.2.1 (fun _ => False)
theorem TXp.mv (x : TXp S N m s bd μ h al ε uM pM) (g : ∀ a i, a ≠ 7761 → (a ≠ 7756 ∨ i = 168) → μ' a i = μ a i) : TXp S N m s bd μ' h al ε uM pM := sorry
theorem TXp.tx (x : TXp S N m s bd μ h al ε uM pM) (h1 : μ 7756 158 = 0) (h2 : μ 7756 160 = 0) : TX S N T n m s bd μ h [] al ε uM pM := sorry
theorem tw_readRecord (n13 : m ≠ 13) (x : TXp S N m s 0 μ h al ε uM pM) (ht : tT μ T n k) (hh : h = hNew (h.2.1 0)) (he : ε 0 = e) (hu : uM ≤ 450 + k.2.1) (hp : pM ≤ 2100 + k.2.1) :
    (∀ f, xRc S N T n (h.2.1 0) k = .inl f → Ft (ab_run wt (d + 12) 263 0 [(2, 7756), (0, e)] [] μ) (frZ m μ) f.1 f.2) ∧ ∀ X', xRc S N T n (h.2.1 0) k = .inr X' → X'.2.2 = [] ∧ R0 (ab_run wt (d + 12) 263 0 [(2, 7756), (0, e)] [] μ) (TXf S N T n m s 0 μ X') := sorry
theorem tw_readMessage (h0 : tTx μ T n) (hs0 : μ 7756 7 = 0) (hf0 : μ 7756 17 = 0) (ts : TS μ s S N) (g0 : S 99 0 0 = 0) :
    (∀ f, xRm S N T n = .inl f → Ft (ab_run wt (d + 13) 255 0 [(2, 7756), (0, s), (3, 0)] [] μ) (frR 12 μ) f.1 f.2) ∧ ∀ X', xRm S N T n = .inr X' → X'.2.2 = [] ∧ R0 (ab_run wt (d + 13) 255 0 [(2, 7756), (0, s), (3, 0)] [] μ) (fun v μ' => v = 1 ∧ tT μ' T n X'.1 ∧ (∃ al' ε' uM' pM', TX S N T n 12 s 0 μ' X'.2.1 [] al' ε' uM' pM' ∧ uM' ≤ 450 + X'.1.2.1 ∧ pM' ≤ 2100 + X'.1.2.1) ∧ frR 12 μ μ') := sorry
end Xt
end
section
section Cx
variable {μ μ' μ'' : ab_M} {d : Nat} {T : Nat → Int} {n : Nat} {k k' k2 : Tok} {S : SF} {N : NF} {A cr ci cb s b bd t : Nat} {h h' h'' : He} {K : List Fr} {X : Rsv} {Vc Vc' Vc'' : Nat → Nat → List It} {r j : Nat}
theorem CM.rt {nr : Nat} {ty : Nat → Nat} {U : Nat → List Un} {ni nu us : Nat} {v : Int} (c : CM X S μ A cr ci cb nr ty Vc U ni nu us) : CM X S (ab_up μ A 2 v) A cr ci cb nr ty Vc U ni nu us := sorry
theorem CM0 {ty : Nat → Nat} {V : Nat → Nat → List It} {U : Nat → List Un} (h3 : μ A 3 = 0) (h8 : μ A 8 = 0) (h17 : μ A 17 = 0) (h26 : μ A 26 = 0) (h33 : μ A 33 = 0) : CM (fun _ => none) S μ A cr ci cb 0 ty V U 0 0 0 := sorry
def frW (A : Nat) (μ μ' : ab_M) : Prop := ∀ a i, ¬ inM A a → a ≠ 2 → a ≠ 8 → a ≠ 9 → a ≠ 1309 → (a ≠ 1 ∨ i ≠ 18 ∧ i ≠ 20) → μ' a i = μ a i
theorem frW.trans (f : frW A μ μ') (g : frW A μ' μ'') : frW A μ μ'' := sorry
theorem frP.w (f : frP μ μ') : frW A μ μ' := sorry
theorem frQ.w {lo : Nat} (f : frQ A lo μ μ') : frW A μ μ' := sorry
theorem frM.w (f : frM A μ μ') : frW A μ μ' := sorry
def RfW (run : ab_R) (A : Nat) (μ : ab_M) (f : Flt) : Prop := RT run (fun μ' => μ' 2 6 = f.1 ∧ μ' 2 7 = f.2 ∧ frW A μ μ')
theorem isM1255 : isM 1255 2600 9000 12000 := sorry
theorem c_root {D : Nat} (hD : 4 * (n + 1) + 12 ≤ D) (n4 : n ≤ 4000) (c : CS S N T n 1255 2600 9000 12000 s b 0 1 0 X μ k (hNew t) (fun _ _ => []) 2) (tf : tF μ 1255 0 (fCt S t) []) :
    (∃ f, xRc S N T n t k = .inl f ∧ RfQ (ab_run wc D 553 0 [(2, 1), (2, 1255), (0, 0), (0, 1), (3, 0), (3, 0), (3, 0)] [] μ) 1255 μ f) ∨ R3 (ab_run wc D 553 0 [(2, 1), (2, 1255), (0, 0), (0, 1), (3, 0), (3, 0), (3, 0)] [] μ) (fun μ' => ∃ k2 h', xRc S N T n t k = .inr (k2, h', []) ∧ CS S N T n 1255 2600 9000 12000 s b 0 1 0 X μ' k2 h' h'.2.2.1 0 ∧ hG S h' ∧ frQ 1255 0 μ μ') := sorry
end Cx
end
section
section Cx
variable {μ μ' μ'' : ab_M} {d : Nat} {T : Nat → Int} {n : Nat} {k k' k2 : Tok} {S : SF} {N : NF} {A cr ci cb s b bd t : Nat} {h h' h'' : He} {K : List Fr} {X : Rsv} {Vc Vc' Vc'' : Nat → Nat → List It} {r j : Nat}
noncomputable def xRd (S : SF) (N : NF) (T : Nat → Int) (n : Nat) : Flt ⊕ He := match xRm S N T n with
  | .inl f => .inl f
  | .inr X => if X.1.1 = 0 then .inr X.2.1 else .inl (2, (X.1.2.1 : Int))
theorem Rf.w {run : ab_R} {x y : Int} (g : Rf run μ x y) : RfW run A μ (x, y) := sorry
theorem RfW.to {run : ab_R} {f : Flt} (g : RfW run A μ' f) (q : frW A μ μ') : RfW run A μ f := sorry
theorem c_refuseW {x y : Int} : RfW (ab_cal (ab_run wc (d + 1) 497 0 [(2, 1), (0, x), (0, y)] [] μ) 2 (fun r4 μ4 => some ((4, r4), μ4)) (fun r4 μ4 => (cond (wc_ob (r4).toNat 2) (some ((4, r4), μ4)) none))) A μ (x, y) := sorry
theorem c_readText {D : Nat} (hD : 4 * (n + 1) + 14 ≤ D) (n4 : n ≤ 4000) (ht : μ 3 1 = n) (hx : ∀ k, k < n → 0 ≤ T k ∧ T k < 256 ∧ μ 4 k = sg (T k)) (s4 : s < 4) (h10 : μ 10 s = b) (hb : isS b) (ok : scOK S N) (hc : cSc μ b S N) :
    (∃ f, xRd S N T n = .inl f ∧ RfW (ab_run wc ((D + 1)) 494 0 [(2, 1), (0, s), (3, 0)] [] μ) 1255 μ f) ∨ ∃ h' μ' k2, xRd S N T n = .inr h' ∧ (ab_run wc ((D + 1)) 494 0 [(2, 1), (0, s), (3, 0)] [] μ) = ab_cal (ab_run wc D 415 0 [(2, 1), (2, 1255)] [] μ') 0 (fun r11 μ11 => some ((4, r11), μ11)) (fun r11 μ11 => (if r11 = 0 then some ((3, 0), μ11) else (ab_cal (ab_run wc D 497 0 [(2, 1), (0, 3), (0, 0)] [] μ11) 2 (fun r12 μ12 => some ((4, r12), μ12)) (fun r12 μ12 => (cond (wc_ob (r12).toNat 2) (some ((4, r12), μ12)) none))))) ∧ CS S N T n 1255 2600 9000 12000 s b 0 1 0 (fun _ => none) μ' k2 h' h'.2.2.1 0 ∧ hG S h' ∧ μ' 1255 2 = 0 ∧ frW 1255 μ μ' := sorry
end Cx
end
section
section Xc
variable {T : Nat → Int} {n : Nat} {k k2 k3 : Tok} {S : SF} {N : NF} {bd : Nat} {h h' : He} {K K' : List Fr} {X Y Z : Xs} {f : Flt} {key : Int × List Int} {r j : Nat} {v : Int} {l : List Int}
def itC (S : SF) (t j : Nat) (q : It) : Prop := (S 14 t j ≠ 9 → q.2.1 = []) ∧ (S 14 t j = 9 → q.1 = 0) ∧ (S 12 t j ≠ 9 → S 12 t j ≠ 10 → q.2.2.2.1 = []) ∧ (S 12 t j = 9 ∨ S 12 t j = 10 ∨ S 12 t j = 12 → q.2.2.1 = 0) ∧ (S 12 t j ≠ 12 → q.2.2.2.2 = 0)
def kyK (S : SF) : Prop := ∀ t j : Nat, (t : Int) < S 0 0 0 → S 2 t 0 = 1 → j < fCt S t → S 11 t j ≠ 3 → S 14 t j = -2
def hCn (S : SF) (h : He) : Prop := ∀ r j, r < h.1 → j < fCt S (h.2.1 r) → ∀ q ∈ h.2.2.1 r j, itC S (h.2.1 r) j q
theorem rdS_c {q : Int} {t : Nat} {p : Int × List Int × Tok} (e : rdS S N T n q t k = .inr p) : (q ≠ 9 → q ≠ 10 → p.2.1 = []) ∧ (q = 9 ∨ q = 10 → p.1 = 0) := sorry
theorem itC_key (h3 : S 11 (h.2.1 r) j ≠ 3 → S 14 (h.2.1 r) j = -2) (h1 : S 12 (h.2.1 r) j ≠ 9 → S 12 (h.2.1 r) j ≠ 10 → l = []) (h2 : S 12 (h.2.1 r) j = 9 ∨ S 12 (h.2.1 r) j = 10 ∨ S 12 (h.2.1 r) j = 12 → v = 0) (c : Nat) (h4 : S 12 (h.2.1 r) j ≠ 12 → c = 0) : itC S (h.2.1 r) j ((kyE (S 14 (h.2.1 r) j) key).1, (kyE (S 14 (h.2.1 r) j) key).2, v, l, c) := sorry
theorem itC_0 (h3 : S 11 (h.2.1 r) j ≠ 3 → S 14 (h.2.1 r) j = -2) (z : S 11 (h.2.1 r) j ≠ 3) (h1 : S 12 (h.2.1 r) j ≠ 9 → S 12 (h.2.1 r) j ≠ 10 → l = []) (h2 : S 12 (h.2.1 r) j = 9 ∨ S 12 (h.2.1 r) j = 10 ∨ S 12 (h.2.1 r) j = 12 → v = 0) (c : Nat) (h4 : S 12 (h.2.1 r) j ≠ 12 → c = 0) : itC S (h.2.1 r) j (0, [], v, l, c) := sorry
theorem kIn_mem {kk : Int} {L : List It} {t q : It} (hq : q ∈ kTk kk key.1 key.2 L ++ t :: kDp kk key.1 key.2 L) : q ∈ L ∨ q = t := sorry
theorem hSet_C (g : hCn S h) (hr : r < h.1) (hj : j < fCt S (h.2.1 r)) (h3 : S 11 (h.2.1 r) j ≠ 3 → S 14 (h.2.1 r) j = -2) (h1 : S 12 (h.2.1 r) j ≠ 9 → S 12 (h.2.1 r) j ≠ 10 → l = []) (h2 : S 12 (h.2.1 r) j = 9 ∨ S 12 (h.2.1 r) j = 10 ∨ S 12 (h.2.1 r) j = 12 → v = 0) : hCn S (hSet S N h r j key v l) := sorry
theorem hRec_C (g : hCn S h) (hr : r < h.1) (hj : j < fCt S (h.2.1 r)) (h12 : S 12 (h.2.1 r) j = 12) (h3 : S 11 (h.2.1 r) j ≠ 3 → S 14 (h.2.1 r) j = -2) : hCn S (hRec S h r j key) := sorry
theorem xVal_C (g : hCn S h) (hr : r < h.1) (hj : j < fCt S (h.2.1 r)) (h3 : S 11 (h.2.1 r) j ≠ 3 → S 14 (h.2.1 r) j = -2) (e : xVal S N T n bd h K r j key k = .inr X) : hCn S X.2.1 := sorry
theorem xStep_C (q : xOK S X) (g : hCn S X.2.1) (h3 : ∀ r j, r < X.2.1.1 → j < fCt S (X.2.1.2.1 r) → S 11 (X.2.1.2.1 r) j ≠ 3 → S 14 (X.2.1.2.1 r) j = -2) (e : xStep S N T n bd X = .inr Y) : hCn S Y.2.1 := sorry
end Xc
end
