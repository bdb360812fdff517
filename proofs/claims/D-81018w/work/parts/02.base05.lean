set_option maxRecDepth 16384
section
section Tw
variable {μ μ' μ'' μ0 : ab_M} {d : Nat} {O : List Int} {S : SF} {N : NF} {m s t j r uM pM : Nat} {h : He} {ε : Nat → Nat} {W : Nat → List We} {c uc : Nat → List Nat} {own : Nat → Nat} {P : Nat → List Int}
def lnEnd (S : SF) (t : Nat) (one : Int) : Nat → Nat → Nat
  | 0, k => k
  | m + 1, k => if S 15 t k = one then lnEnd S t one m (k + 1) else k
def thX (s t : Nat) (th : Int) : Int := if th < 0 then -2 else ((fX s t th.toNat : Nat) : Int)
theorem tw_fst0 (H : tH S μ0 m s h.1 (fun _ => true) h.2.1 h.2.2.1 h.2.2.2 ε W c uc own uM pM) (ts : TS μ0 s S N) (hr : r < h.1) (hj : j < fCt S (h.2.1 r)) : (tFst μ0 (fX s (h.2.1 r) j) (c r) < 0 ↔ h.2.2.1 r j = []) := sorry
theorem tw_wo24 {G : Nat} (H : tH S μ0 m s h.1 (fun _ => true) h.2.1 h.2.2.1 h.2.2.2 ε W c uc own uM pM) (ts : TS μ0 s S N) (hr : r < h.1) (hj : j < fCt S (h.2.1 r)) (f : frLn μ0 μ) : ∀ (n k : Nat) (th : Int), k + n = fCt S (h.2.1 r) → th < k → (ab_run wt (d + 5) 333 24 [(2, 7756), (0, m), (0, (ε r)), (0, (((30 * s + h.2.1 r : Nat) : Int))), (0, (fX s (h.2.1 r) j)), (0, G), (0, (thX s (h.2.1 r) th)), (0, (((j + 1 : Nat) : Int))), (0, k), (3, 0)] [] μ) = (ab_run wt (d + 5) 333 107 [(2, 7756), (0, m), (0, (ε r)), (3, 0), (3, 0), (3, 0), (0, (thX s (h.2.1 r) (lnT S (h.2.1 r) (h.2.2.1 r) (S 15 (h.2.1 r) j) n k th))), (3, 0), (3, 0), (3, 0)] [(0, ((if j + 1 < lnEnd S (h.2.1 r) (S 15 (h.2.1 r) j) n k then ((lnEnd S (h.2.1 r) (S 15 (h.2.1 r) j) n k : Nat) : Int) else ((j + 1 : Nat) : Int)))), (0, G), (2, 7901)] μ) := sorry
end Tw
end
section
section Tw
variable {μ μ' μ'' μ0 : ab_M} {d : Nat} {O : List Int} {S : SF} {N : NF} {m s t j r uM pM : Nat} {h : He} {ε : Nat → Nat} {W : Nat → List We} {c uc : Nat → List Nat} {own : Nat → Nat} {P : Nat → List Int}
theorem lnEnd_le {one : Int} : ∀ n k, k ≤ lnEnd S t one n k ∧ lnEnd S t one n k ≤ k + n := sorry
theorem lnQ.pre {G e k : Nat} {it : Int} {run : ab_R} {μa : ab_M} {O2 : List Int} (b : lnB G μ μa) (z : lnQ d m μ0 μa G e k it run O2) : lnQ d m μ0 μ G e k it run O2 := sorry
theorem tw_wone {G : Nat} (H : tH S μ0 m s h.1 (fun _ => true) h.2.1 h.2.2.1 h.2.2.2 ε W c uc own uM pM) (ts : TS μ0 s S N) (hr : r < h.1) (hj : j < fCt S (h.2.1 r)) (e15 : 0 ≤ S 15 (h.2.1 r) j) (hi : hI S h) (hn : hNm S h) (g16 : G + 1 < 16) (hc : ∀ j, j < fCt S (h.2.1 r) → S 12 (h.2.1 r) j = 12 → ∀ q ∈ h.2.2.1 r j, TLs d m μ0 ε (P q.2.2.2.2) q.2.2.2.2 (G + 1)) (f : frLn μ0 μ) (cx : tXo μ O) (g : lnG μ G (ε r) (j + 1) (-2)) (ln : O.length + (lnO S N (h.2.1 r) P (h.2.2.1 r) (fCt S (h.2.1 r)) j).length < 2147300000) :
    lnQ d m μ0 μ G (ε r) (lnEnd S (h.2.1 r) (S 15 (h.2.1 r) j) (fCt S (h.2.1 r) - j) j) (-2) (ab_run wt (d + 5) 333 0 [(2, 7756), (0, m), (0, (ε r)), (0, (((30 * s + h.2.1 r : Nat) : Int))), (0, (fX s (h.2.1 r) j)), (0, G), (3, 0), (3, 0), (3, 0), (3, 0)] [] μ) (O ++ lnO S N (h.2.1 r) P (h.2.2.1 r) (fCt S (h.2.1 r)) j) := sorry
end Tw
end
section
section Tw
variable {μ μ' μ'' μ0 : ab_M} {d : Nat} {O : List Int} {S : SF} {N : NF} {m s t j r uM pM : Nat} {h : He} {ε : Nat → Nat} {W : Nat → List We} {c uc : Nat → List Nat} {own : Nat → Nat} {P : Nat → List Int}
theorem tH.ln (H : tH S μ0 m s h.1 (fun _ => true) h.2.1 h.2.2.1 h.2.2.2 ε W c uc own uM pM) (f : frLn μ0 μ) : tH S μ m s h.1 (fun _ => true) h.2.1 h.2.2.1 h.2.2.2 ε W c uc own uM pM := sorry
theorem lnFs_skip {v : Nat → List It} {n : Nat} {one : Int} (o0 : 0 ≤ one) : ∀ (q k : Nat), 0 < k → S 15 t (k - 1) = one → lnFs S N t P v n q k = lnFs S N t P v n (k + q - lnEnd S t one q k) (lnEnd S t one q k) := sorry
theorem lnEnd_ne {one : Int} : ∀ (q k : Nat), lnEnd S t one q k < k + q → S 15 t (lnEnd S t one q k) ≠ one := sorry
theorem lnEnd_pre {one : Int} : ∀ (q k : Nat), k < lnEnd S t one q k → S 15 t (lnEnd S t one q k - 1) = one := sorry
theorem tw_lnF {G : Nat} (H : tH S μ0 m s h.1 (fun _ => true) h.2.1 h.2.2.1 h.2.2.2 ε W c uc own uM pM) (ts : TS μ0 s S N) (hr : r < h.1) (hi : hI S h) (hn : hNm S h) (n7 : n7OK S N) (g16 : G + 1 < 16) (hc : ∀ j, j < fCt S (h.2.1 r) → S 12 (h.2.1 r) j = 12 → ∀ q ∈ h.2.2.1 r j, TLs d m μ0 ε (P q.2.2.2.2) q.2.2.2.2 (G + 1)) :
    ∀ (n q j : Nat) (μ : ab_M) (O : List Int), q ≤ n → j + q = fCt S (h.2.1 r) → (0 < q → j = 0 ∨ S 15 (h.2.1 r) (j - 1) ≠ S 15 (h.2.1 r) j ∨ ¬ 0 ≤ S 15 (h.2.1 r) j) → frLn μ0 μ → tXo μ O → lnG μ G (ε r) j (-2) → O.length + (lnFs S N (h.2.1 r) P (h.2.2.1 r) (fCt S (h.2.1 r)) q j).length < 2147300000 →
    ∃ μ', (ab_run wt (d + 6) 330 24 [(2, 7756), (0, m), (3, 0), (3, 0), (3, 0), (3, 0), (3, 0)] [] μ) = (ab_run wt (d + 6) 330 24 [(2, 7756), (0, m), (3, 0), (3, 0), (3, 0), (3, 0), (3, 0)] [] μ') ∧ tXo μ' (O ++ lnFs S N (h.2.1 r) P (h.2.2.1 r) (fCt S (h.2.1 r)) q j) ∧ μ' 7756 175 = G ∧ frLn μ0 μ' ∧ lnB G μ μ' := sorry
theorem tw_TLs (H : tH S μ0 m s h.1 (fun _ => true) h.2.1 h.2.2.1 h.2.2.2 ε W c uc own uM pM) (ts : TS μ0 s S N) (hi : hI S h) (hn : hNm S h) (n7 : n7OK S N) : ∀ (f r G : Nat), r < h.1 → h.1 ≤ r + f → dpL S h f r (G + 1) → TLs d m μ0 ε (lnR S N h f r) r G := sorry
end Tw
end
section
section Tw
variable {μ μ' μ'' μ0 : ab_M} {d : Nat} {O : List Int} {S : SF} {N : NF} {m s : Nat} {h : He}
theorem tw_writeLinear (hm : m < 12) (mt : mT S N μ m s h) (n7 : n7OK S N) (bl : (lnM S N h).length < 1000000) : R0 (ab_run wt (d + 8) 330 0 [(2, 7756), (0, m), (3, 0), (3, 0), (3, 0), (3, 0), (3, 0)] [] μ) (fun v μ' => (v = if (256 : Int) ∈ lnM S N h then 0 else 1) ∧ tOu μ' (fltB (lnM S N h)) ∧ frLn μ μ') := sorry
theorem tw_encode1 {row : Nat} (hm : m < 12) (hr : row < 8) (n7 : n7OK S N) (z : μ 7862 m = 1) (mt : mT S N μ m s h) (bl : (lnM S N h).length < 1000000) :
    R0 (ab_run wt (d + 10) 44 0 [(2, 7756), (0, m), (0, 1), (0, row)] [] μ) (fun v μ' => (∀ a i, a ≠ 7887 → a ≠ 7900 → a ≠ 7901 → a ≠ 7902 → (a ≠ 7756 ∨ i ≠ 172 ∧ i ≠ 175 ∧ i ≠ 194) → (a ≠ 7759 ∨ i ≠ row) → (a ≠ 7758 ∨ i < 4000 * row ∨ 4000 * row + 4000 ≤ i) → μ' a i = μ a i) ∧ if (256 : Int) ∈ lnM S N h ∨ 4000 < (fltB (lnM S N h)).length then (v = if (256 : Int) ∈ lnM S N h then -2 else -3) ∧ (∀ a i, a = 7759 ∨ a = 7758 → μ' a i = μ a i) else v = (fltB (lnM S N h)).length ∧ μ' 7759 row = (fltB (lnM S N h)).length ∧ tBy μ' 7758 (4000 * row) (fltB (lnM S N h))) := sorry
end Tw
end
section
section Ll
variable {S : SF} {N : NF} {h : He} {t j n : Nat} {P : Nat → List Int} {F : Nat → Int} {v : Nat → List It}
theorem lnV_len {k w : Int} {ty : Nat} {l pc : List Int} : ((lnV S k ty w l pc).length : Int) ≤ 9 + l.length + (if k = 12 then (pc.length : Int) else 0) := sorry
def lnC (S : SF) (t : Nat) (F : Nat → Int) (v : Nat → List It) (j : Nat) : Int := 18 * wgV (S 11 t j) (v j) + byV (v j) + (if S 12 t j = 12 then sumI F (v j) else 0)
def sumQ (C : Nat → Int) : Nat → Nat → Int
  | 0, _ => 0
  | q + 1, j => C j + sumQ C q (j + 1)
theorem lnS_len (n7 : (N 7 t j).length ≤ 60) (F0 : ∀ x, 0 ≤ F x) (hP : S 12 t j = 12 → ∀ q ∈ v j, ((P q.2.2.2.2).length : Int) ≤ F q.2.2.2.2) : ((lnS S N t j P (v j)).length : Int) ≤ 69 + lnC S t F v j := sorry
end Ll
end
section
section Ll
variable {S : SF} {N : NF} {h : He} {t j n : Nat} {P : Nat → List Int} {F : Nat → Int} {v : Nat → List It}
theorem lnIs_len (F0 : ∀ x, 0 ≤ F x) (k3 : S 11 t j = 3 → S 14 t j ≠ 12) : ∀ L : List It, (S 12 t j = 12 → ∀ q ∈ L, ((P q.2.2.2.2).length : Int) ≤ F q.2.2.2.2) → ((L.flatMap (lnI S t j P)).length : Int) ≤ 18 * (L.length * (if S 11 t j = 3 then 2 else 1)) + byV L + (if S 12 t j = 12 then sumI F L else 0) := sorry
theorem lnC_0 (F0 : ∀ x, 0 ≤ F x) : 0 ≤ lnC S t F v j := sorry
theorem sumQ_0 {C : Nat → Int} (c0 : ∀ j, 0 ≤ C j) : ∀ q j, 0 ≤ sumQ C q j := sorry
theorem sumQ_th {C : Nat → Int} (c0 : ∀ j, 0 ≤ C j) {th e : Nat} : ∀ q j, j ≤ th → th < e → e ≤ j + q → C th + sumQ C (j + q - e) e ≤ sumQ C q j := sorry
theorem lnT_lt {one : Int} : ∀ (q k lo : Nat) (th : Int), lo ≤ k → (th = -1 ∨ ∃ i : Nat, th = i ∧ lo ≤ i ∧ i < k) → lnT S t v one q k th = -1 ∨ ∃ i : Nat, lnT S t v one q k th = i ∧ lo ≤ i ∧ i < lnEnd S t one q k := sorry
end Ll
end
section
section Ll
variable {S : SF} {N : NF} {h : He} {t j n : Nat} {P : Nat → List Int} {F : Nat → Int} {v : Nat → List It}
theorem lnFs_len (fo : ∀ j, j < n → fdOK S N t j) (F0 : ∀ x, 0 ≤ F x) (hP : ∀ j, j < n → S 12 t j = 12 → ∀ q ∈ v j, ((P q.2.2.2.2).length : Int) ≤ F q.2.2.2.2) :
    ∀ (k q j : Nat), q ≤ k → j + q = n → (0 < q → j = 0 ∨ S 15 t (j - 1) ≠ S 15 t j ∨ ¬ 0 ≤ S 15 t j) → ((lnFs S N t P v n q j).length : Int) ≤ 73 * q + sumQ (lnC S t F v) q j := sorry
theorem sumQ_N {C : Nat → Int} : ∀ q j, sumN C j + sumQ C q j = sumN C (j + q) := sorry
theorem lnR_len {al : Nat → Bool} (ok : scOK S N) (ht : hTy S h) (dn : hDn S h al) : ∀ (f r : Nat), r < h.1 → al r = true → ((lnR S N h f r).length : Int) ≤ 1752 + (1800 * mzV S h f r + mzB S h f r) := sorry
theorem lnM_len (ok : scOK S N) (w : hWell S h) (dn : hDn S h (fun _ => true)) (hv : vlS S h ≤ 400) (hb : btS S h ≤ 2000) : (lnM S N h).length < 1000000 := sorry
end Ll
end
section
section Lq
variable {S : SF} {N : NF} {h g : He} {t n j : Nat} {P P' : Nat → List Int} {v v' : Nat → List It}
theorem lnV_P {k w : Int} {ty : Nat} {l a b : List Int} (e : k = 12 → a = b) : lnV S k ty w l a = lnV S k ty w l b := sorry
theorem itsE.lni {R : Nat → Nat → Prop} (hP : S 12 t j = 12 → ∀ x y, R x y → P x = P' y) : ∀ {L L' : List It}, itsE R (decide (S 12 t j = 12)) L L' → L.flatMap (lnI S t j P) = L'.flatMap (lnI S t j P') ∧ L.length = L'.length ∧ lnS S N t j P L = lnS S N t j P' L' := sorry
theorem lnT_eq {one : Int} (ne : ∀ k, k < n → (v k = [] ↔ v' k = [])) : ∀ (q k : Nat) (th : Int), k + q ≤ n → lnT S t v one q k th = lnT S t v' one q k th := sorry
theorem lnFs_eq (ne : ∀ k, k < n → (v k = [] ↔ v' k = [])) (ei : ∀ k, k < n → (v k).flatMap (lnI S t k P) = (v' k).flatMap (lnI S t k P') ∧ (v k).length = (v' k).length ∧ lnS S N t k P (v k) = lnS S N t k P' (v' k)) : ∀ (q j : Nat), j + q = n → lnFs S N t P v n q j = lnFs S N t P' v' n q j := sorry
theorem eqT.ln : ∀ {f r r' : Nat}, eqT S h g f r r' → lnR S N h f r = lnR S N g f r' := sorry
theorem lnR_st {al : Nat → Bool} (dn : hDn S h al) : ∀ (c c' r : Nat), r < h.1 → al r = true → h.1 ≤ r + c → h.1 ≤ r + c' → lnR S N h c r = lnR S N h c' r := sorry
theorem lnM_eq {al al' : Nat → Bool} (e : hEq S h g) (dn : hDn S h al) (a0 : al 0 = true) (h0 : 0 < h.1) (dn' : hDn S g al') (a0' : al' 0 = true) (g0 : 0 < g.1) : lnM S N h = lnM S N g := sorry
end Lq
end
section
section Sd
abbrev Sg := He × Nat × Nat
abbrev Rdr := Nat → Nat → Nat → Nat → Sg → Flt ⊕ Sg
def ovr : Flt := (99, 0)
def hUnk (h : He) (r : Nat) (u : Un) : He := (h.1, h.2.1, h.2.2.1, upL h.2.2.2 r (h.2.2.2 r ++ [u]))
def hOrp (h : He) (t : Nat) : He := (h.1 + 1, upT h.2.1 h.1 t, nwV h.2.2.1 h.1, nwU h.2.2.2 h.1)
noncomputable def kPt (k : Int) (t : It) (L : List It) : List It := kTk k t.1 t.2.1 L ++ t :: (if kyB k (t.1, t.2.1) L = true then (kDp k t.1 t.2.1 L).tail else kDp k t.1 t.2.1 L)
noncomputable def hPair (S : SF) (h : He) (r j : Nat) (t : It) : He := (h.1, h.2.1, upV h.2.2.1 r j (kPt (S 14 (h.2.1 r) j) t (h.2.2.1 r j)), h.2.2.2)
noncomputable def hEnt (S : SF) (h : He) (r j : Nat) : He × Nat := match h.2.2.1 r j with
  | [] => (hRec S h r j (0, []), h.1)
  | t :: _ => (h, t.2.2.2.2)
noncomputable def scR (k : Int) (T : Nat → Int) (e p : Nat) : Flt ⊕ (Int × List Int × Nat) := if k = 9 ∨ k = 10 then (match mny T e p with
    | .inl f => .inl f
    | .inr (u, q) => if k = 9 ∧ utf (slc T q u) = false then .inl (5, (q : Int)) else .inr (0, slc T q u, q + u))
  else match nmR k T e p with
    | .inl f => .inl f
    | .inr (v, q) => .inr (v, [], q)
noncomputable def sPk (S : SF) (N : NF) (T : Nat → Int) (r j last : Nat) : Nat → Nat → Sg → Flt ⊕ Sg
  | 0, _, _ => .inl ovr
  | f + 1, p, σ => if p = last then .inr σ else if 4400 < σ.2.1 + 1 then .inl ovr else match nmR (S 12 (σ.1.2.1 r) j) T last p with
    | .inl g => .inl g
    | .inr (v, q) => sPk S N T r j last f q (hSet S N σ.1 r j (0, []) v [], σ.2.1 + 1, σ.2.2)
noncomputable def sPl (S : SF) (T : Nat → Int) (t j e dp : Nat) (rec : Rdr) : Nat → Nat → Sg → It → Flt ⊕ (Sg × It)
  | 0, _, _, _ => .inl ovr
  | f + 1, p, σ, x => if p = e then .inr (σ, x) else if 4400 < σ.2.1 + 2 then .inl ovr else match rkY T e p with
    | .inl g => .inl g
    | .inr (n, w, q) =>
      if n = 1 ∧ (w : Int) = kWire (S 14 t j) then (match scR (S 14 t j) T e q with
        | .inl g => .inl g
        | .inr (v, l, q') => if 8800 < σ.2.2 + l.length then .inl ovr else sPl S T t j e dp rec f q' (σ.1, σ.2.1 + 2, σ.2.2 + l.length) (v, l, x.2.2))
      else if n = 2 ∧ (w : Int) = kWire (S 12 t j) then
        if S 12 t j = 12 then (match mny T e q with
          | .inl g => .inl g
          | .inr (u, q') => if dp = 12 then .inl (6, (p : Int)) else match rec σ.1.1 (q' + u) (dp + 1) q' (hOrp σ.1 (S 13 t j).toNat, σ.2.1 + 2, σ.2.2) with
            | .inl g => .inl g
            | .inr σ' => sPl S T t j e dp rec f (q' + u) σ' (x.1, x.2.1, 0, [], σ.1.1))
        else match scR (S 12 t j) T e q with
          | .inl g => .inl g
          | .inr (v, l, q') => if 8800 < σ.2.2 + l.length then .inl ovr else sPl S T t j e dp rec f q' (σ.1, σ.2.1 + 2, σ.2.2 + l.length) (x.1, x.2.1, v, l, x.2.2.2.2)
      else match psV (w : Int) T e q with
        | .inl g => .inl g
        | .inr q' => sPl S T t j e dp rec f q' (σ.1, σ.2.1 + 2, σ.2.2) x
noncomputable def sPb (S : SF) (t j : Nat) (h : He) : He × It := (if S 12 t j = 12 then hOrp h (S 13 t j).toNat else h, (0, [], if S 12 t j = 11 then S 25 (S 13 t j).toNat 0 else 0, [], if S 12 t j = 12 then h.1 else 0))
abbrev sPac (S : SF) (t j : Nat) : Prop := S 11 t j = 2 ∧ S 12 t j ≠ 9 ∧ S 12 t j ≠ 10 ∧ S 12 t j ≠ 12
noncomputable def sOwn (S : SF) (N : NF) (T : Nat → Int) (rec : Rdr) (c r e dp p : Nat) (σ : Sg) (j : Nat) (w : Int) (q : Nat) : Flt ⊕ (Nat × Sg) :=
  if sPac S (σ.1.2.1 r) j ∧ w = 2 then (match mny T e q with
    | .inl g => .inl g
    | .inr (u, q') => match sPk S N T r j (q' + u) c q' (σ.1, σ.2.1 + 2, σ.2.2) with
      | .inl g => .inl g
      | .inr σ' => .inr (q' + u, σ'))
  else if S 11 (σ.1.2.1 r) j = 3 then (match mny T e q with
    | .inl g => .inl g
    | .inr (u, q') => match sPl S T (σ.1.2.1 r) j (q' + u) dp rec c q' ((sPb S (σ.1.2.1 r) j σ.1).1, σ.2.1 + 2, σ.2.2) (sPb S (σ.1.2.1 r) j σ.1).2 with
      | .inl g => .inl g
      | .inr (σ', x) => if S 12 (σ.1.2.1 r) j = 12 ∧ dp = 12 then .inl (6, (p : Int)) else .inr (q' + u, (hPair S σ'.1 r j x, σ'.2)))
  else if S 12 (σ.1.2.1 r) j = 12 then (match mny T e q with
    | .inl g => .inl g
    | .inr (u, q') => if dp = 12 then .inl (6, (p : Int)) else
      if S 11 (σ.1.2.1 r) j = 2 then (match rec σ.1.1 (q' + u) (dp + 1) q' (hRec S σ.1 r j (0, []), σ.2.1 + 2, σ.2.2) with
        | .inl g => .inl g
        | .inr σ' => .inr (q' + u, σ'))
      else match rec (hEnt S σ.1 r j).2 (q' + u) (dp + 1) q' ((hEnt S σ.1 r j).1, σ.2.1 + 2, σ.2.2) with
        | .inl g => .inl g
        | .inr σ' => .inr (q' + u, σ'))
  else match scR (S 12 (σ.1.2.1 r) j) T e q with
    | .inl g => .inl g
    | .inr (v, l, q') => if 8800 < σ.2.2 + l.length then .inl ovr else .inr (q', (hSet S N σ.1 r j (0, []) v l, σ.2.1 + 2, σ.2.2 + l.length))
def wrF (S : SF) (t j : Nat) : Int := if S 11 t j = 3 then 2 else kWire (S 12 t j)
noncomputable def sFld (S : SF) (N : NF) (T : Nat → Int) (rec : Rdr) (c r e dp p : Nat) (σ : Sg) : Flt ⊕ (Nat × Sg) :=
  if 4400 < σ.2.1 + 2 then .inl ovr else match rkY T e p with
  | .inl g => .inl g
  | .inr (n, w, q) =>
    if fNo (S 10 (σ.1.2.1 r)) n (fCt S (σ.1.2.1 r)) 0 < 0 ∨ (¬ (sPac S (σ.1.2.1 r) (fNo (S 10 (σ.1.2.1 r)) n (fCt S (σ.1.2.1 r)) 0).toNat ∧ (w : Int) = 2) ∧ (w : Int) ≠ wrF S (σ.1.2.1 r) (fNo (S 10 (σ.1.2.1 r)) n (fCt S (σ.1.2.1 r)) 0).toNat) then (match psV (w : Int) T e q with
      | .inl g => .inl g
      | .inr q' => if 8800 < σ.2.2 + (q' - q) then .inl ovr else .inr (q', (hUnk σ.1 r ((n : Int), (w : Int), slc T q (q' - q)), σ.2.1 + 2, σ.2.2 + (q' - q))))
    else sOwn S N T rec c r e dp p σ (fNo (S 10 (σ.1.2.1 r)) n (fCt S (σ.1.2.1 r)) 0).toNat (w : Int) q
noncomputable def sRec (S : SF) (N : NF) (T : Nat → Int) : Nat → Rdr
  | 0 => fun _ _ _ _ _ => .inl ovr
  | c + 1 => fun r e dp p σ => if p = e then .inr σ else match sFld S N T (sRec S N T c) c r e dp p σ with
    | .inl g => .inl g
    | .inr (p', σ') => sRec S N T c r e dp p' σ'
end Sd
end
section
section Hn
variable {S : SF} {N : NF} {h h' : He} {D : Nat → Nat} {r j : Nat} {k v : Int} {l : List Int} {t : It} {L : List It}
def itOK (S : SF) (h : He) (D : Nat → Nat) (r j : Nat) (t : It) : Prop := ((S 11 (h.2.1 r) j ≠ 3 → t.1 = 0 ∧ t.2.1 = []) ∧ byt t.2.1 ∧ lng t.1) ∧ itC S (h.2.1 r) j t ∧ (S 12 (h.2.1 r) j = 12 → r < t.2.2.2.2 ∧ t.2.2.2.2 < h.1 ∧ D t.2.2.2.2 = D r + 1) ∧ lng t.2.2.1 ∧ byt t.2.2.2.1
def rIn (S : SF) (h : He) (D : Nat → Nat) (r : Nat) : Prop := (((h.2.1 r : Int) < S 0 0 0 ∧ S 2 (h.2.1 r) 0 = 1) ∧ 1 ≤ D r ∧ D r ≤ 12) ∧ (∀ u ∈ h.2.2.2 r, unOK u) ∧ (∀ j, j < fCt S (h.2.1 r) → (S 11 (h.2.1 r) j < 2 → (h.2.2.1 r j).length ≤ 1) ∧ (∀ t ∈ h.2.2.1 r j, itOK S h D r j t) ∧ (S 11 (h.2.1 r) j = 3 → srt (S 14 (h.2.1 r) j) (h.2.2.1 r j))) ∧
  ∀ j k, j < fCt S (h.2.1 r) → k < fCt S (h.2.1 r) → j ≠ k → 0 ≤ S 15 (h.2.1 r) j → S 15 (h.2.1 r) k = S 15 (h.2.1 r) j → h.2.2.1 r j ≠ [] → h.2.2.1 r k = []
def hIn (S : SF) (h : He) (D : Nat → Nat) : Prop := 0 < h.1 ∧ ∀ r, r < h.1 → rIn S h D r
theorem hIn.wl (i : hIn S h D) (hr : r < h.1) : rWl S h r := sorry
theorem hIn.well (i : hIn S h D) : hWell S h ∧ hDn S h (fun _ => true) ∧ hNm S h := sorry
theorem hIn.di (i : hIn S h D) : dI S h D := sorry
theorem hIn.hi (i : hIn S h D) : hI S h := sorry
theorem hIn.hg (i : hIn S h D) : hG S h := sorry
theorem hIn.ty (i : hIn S h D) (hr : r < h.1) : (h.2.1 r : Int) < S 0 0 0 ∧ S 2 (h.2.1 r) 0 = 1 := sorry
theorem hIn.fd (i : hIn S h D) (ok : scOK S N) (hr : r < h.1) (hj : j < fCt S (h.2.1 r)) : fdOK S N (h.2.1 r) j := sorry
theorem hIn.up {V' : Nat → Nat → List It} {l : List It} (i : hIn S h D) (hV : ∀ a c, V' a c = [] ∨ V' a c = h.2.2.1 a c) (h1 : S 11 (h.2.1 r) j < 2 → l.length ≤ 1) (h2 : ∀ t ∈ l, itOK S h D r j t) (h3 : S 11 (h.2.1 r) j = 3 → srt (S 14 (h.2.1 r) j) l) (h4 : l ≠ [] → 0 ≤ S 15 (h.2.1 r) j → ∀ k, k < fCt S (h.2.1 r) → k ≠ j → S 15 (h.2.1 r) k = S 15 (h.2.1 r) j → V' r k = []) : hIn S (h.1, h.2.1, upV V' r j l, h.2.2.2) D := sorry
theorem lvO_one {V : Nat → Nat → List It} {c : Nat} (h0 : 0 ≤ S 15 (h.2.1 r) j) (hc : c < fCt S (h.2.1 r)) (ne : c ≠ j) (e : S 15 (h.2.1 r) c = S 15 (h.2.1 r) j) : lvO S (h.2.1 r) r j V r c = [] := sorry
theorem hIn.set (i : hIn S h D) (ok : scOK S N) (hr : r < h.1) (hj : j < fCt S (h.2.1 r)) (h3 : S 11 (h.2.1 r) j ≠ 3) (h12 : S 12 (h.2.1 r) j ≠ 12) (h1 : S 12 (h.2.1 r) j ≠ 9 → S 12 (h.2.1 r) j ≠ 10 → l = []) (h2 : S 12 (h.2.1 r) j = 9 ∨ S 12 (h.2.1 r) j = 10 → v = 0) (hv : lng v) (hl : byt l) : hIn S (hSet S N h r j (0, []) v l) D := sorry
theorem hIn.orp {t d : Nat} (i : hIn S h D) (ht : (t : Int) < S 0 0 0 ∧ S 2 t 0 = 1) (d1 : 1 ≤ d) (d2 : d ≤ 12) : hIn S (hOrp h t) (upL D h.1 d) := sorry
theorem hIn.t13 (i : hIn S h D) (ok : scOK S N) (hr : r < h.1) (hj : j < fCt S (h.2.1 r)) (h12 : S 12 (h.2.1 r) j = 12) : ∃ t : Nat, S 13 (h.2.1 r) j = t ∧ (t : Int) < S 0 0 0 ∧ S 2 t 0 = 1 := sorry
theorem hIn.rec (i : hIn S h D) (ok : scOK S N) (hr : r < h.1) (hj : j < fCt S (h.2.1 r)) (h3 : S 11 (h.2.1 r) j ≠ 3) (h12 : S 12 (h.2.1 r) j = 12) (hd : D r + 1 ≤ 12) : hIn S (hRec S h r j (0, [])) (upL D h.1 (D r + 1)) := sorry
theorem hIn.unk {u : Un} (i : hIn S h D) (hu : unOK u) : hIn S (hUnk h r u) D := sorry
theorem kDp_hd : ∀ {L : List It}, kyB k (v, l) L = true → ∃ u M, kDp k v l L = u :: M ∧ kyC k u v l = 0 := sorry
theorem kPt_mem {q : It} (hq : q ∈ kPt k t L) : q = t ∨ q ∈ L := sorry
theorem srt_kPt (hs : srt k L) (hl : ∀ t ∈ L, lng t.1) (ht : lng t.1) : srt k (kPt k t L) := sorry
theorem hIn.pair (i : hIn S h D) (ok : scOK S N) (hr : r < h.1) (hj : j < fCt S (h.2.1 r)) (h3 : S 11 (h.2.1 r) j = 3) (it : itOK S h D r j t) : hIn S (hPair S h r j t) D := sorry
end Hn
end
section
section Sf
variable {S : SF} {N : NF} {h h' h'' : He} {D D' D'' : Nat → Nat} {r j e p n : Nat} {T : Nat → Int} {k : Int}
theorem nmR_ok {v : Int} {q : Nat} (w : nmR k T e p = .inr (v, q)) (hp : p ≤ e) (hT : ∀ k, k < e → 0 ≤ T k ∧ T k < 256) : lng v ∧ p < q ∧ q ≤ e := sorry
theorem slc_byt {q u : Nat} (hT : ∀ k, k < e → 0 ≤ T k ∧ T k < 256) (h : q + u ≤ e) : byt (slc T q u) := sorry
theorem scR_ok {v : Int} {l : List Int} {q : Nat} (w : scR k T e p = .inr (v, l, q)) (hp : p ≤ e) (hT : ∀ k, k < e → 0 ≤ T k ∧ T k < 256) : (lng v ∧ byt l) ∧ (p < q ∧ q ≤ e ∧ p + l.length ≤ q) ∧ (k ≠ 9 → k ≠ 10 → l = []) ∧ (k = 9 ∨ k = 10 → v = 0) := sorry
theorem rkY_ok {m w q : Nat} (e1 : rkY T e p = .inr (m, w, q)) (hp : p ≤ e) (hT : ∀ k, k < e → 0 ≤ T k ∧ T k < 256) : (1 ≤ m ∧ m ≤ 536870911) ∧ (w ≤ 5 ∧ w ≠ 3 ∧ w ≠ 4) ∧ p < q ∧ q ≤ e := sorry
def hKp (r : Nat) (h h' : He) : Prop := h.1 ≤ h'.1 ∧ (∀ a, a < h.1 → h'.2.1 a = h.2.1 a) ∧ ∀ a, a < r → h'.2.2.1 a = h.2.2.1 a ∧ h'.2.2.2 a = h.2.2.2 a
theorem hKp.refl : hKp r h h := sorry
theorem hKp.trans (x : hKp r h h') (y : hKp r h' h'') : hKp r h h'' := sorry
theorem hKp.le {r' : Nat} (x : hKp r h h') (l : r' ≤ r) : hKp r' h h' := sorry
theorem upV_row {V : Nat → Nat → List It} {a : Nat} {l : List It} (z : a ≠ r) : upV V r j l a = V a := sorry
theorem hKp.set {key : Int × List Int} {v : Int} {l : List Int} : hKp r h (hSet S N h r j key v l) := sorry
theorem hKp.orp {t : Nat} (hr : r ≤ h.1) : hKp r h (hOrp h t) := sorry
theorem hKp.rec {key : Int × List Int} (hr : r < h.1) : hKp r h (hRec S h r j key) := sorry
theorem hKp.unk {u : Un} : hKp r h (hUnk h r u) := sorry
theorem hKp.pair {t : It} : hKp r h (hPair S h r j t) := sorry
def rdQ (S : SF) (r : Nat) (σ σ' : Sg) (D D' : Nat → Nat) : Prop := hIn S σ'.1 D' ∧ (∀ x, x < σ.1.1 → D' x = D x) ∧ hKp r σ.1 σ'.1 ∧ (σ.2.1 ≤ σ'.2.1 ∧ (σ.2.1 ≤ 4400 → σ'.2.1 ≤ 4400)) ∧ σ.2.2 ≤ σ'.2.2 ∧ (σ.2.2 ≤ 8800 → σ'.2.2 ≤ 8800)
theorem rdQ.trans {σ σ' σ'' : Sg} (x : rdQ S r σ σ' D D') (y : rdQ S r σ' σ'' D' D'') : rdQ S r σ σ'' D D'' := sorry
theorem rdQ.le {r' : Nat} {σ σ' : Sg} (x : rdQ S r σ σ' D D') (l : r' ≤ r) : rdQ S r' σ σ' D D' := sorry
def RdK (S : SF) (n : Nat) (rec : Rdr) : Prop := ∀ (r e dp p : Nat) (σ σ' : Sg) (D : Nat → Nat), rec r e dp p σ = .inr σ' → hIn S σ.1 D → r < σ.1.1 → D r = dp → e ≤ n → p ≤ e → ∃ D', rdQ S r σ σ' D D'
theorem sPk_K (ok : scOK S N) (hT : ∀ k, k < n → 0 ≤ T k ∧ T k < 256) {last : Nat} (hl : last ≤ n) : ∀ (f p : Nat) (σ σ' : Sg), sPk S N T r j last f p σ = .inr σ' → p ≤ last → hIn S σ.1 D → r < σ.1.1 → j < fCt S (σ.1.2.1 r) → sPac S (σ.1.2.1 r) j → rdQ S r σ σ' D D := sorry
def pOK (S : SF) (h : He) (D : Nat → Nat) (r j dp : Nat) (x : It) : Prop := (byt x.2.1 ∧ lng x.1 ∧ lng x.2.2.1 ∧ byt x.2.2.2.1) ∧ itC S (h.2.1 r) j x ∧ (S 12 (h.2.1 r) j = 12 → r < x.2.2.2.2 ∧ x.2.2.2.2 < h.1 ∧ D x.2.2.2.2 = if dp = 12 then 12 else dp + 1)
theorem pOK.to {x : It} {dp r' : Nat} (o : pOK S h D r j dp x) (hr : r < h.1) (k : hKp r' h h') (d : ∀ a, a < h.1 → D' a = D a) : pOK S h' D' r j dp x := sorry
theorem hIn.pb (i : hIn S h D) (ok : scOK S N) (hr : r < h.1) (hj : j < fCt S (h.2.1 r)) : ∃ D', hIn S (sPb S (h.2.1 r) j h).1 D' ∧ (∀ a, a < h.1 → D' a = D a) ∧ hKp (r + 1) h (sPb S (h.2.1 r) j h).1 ∧ pOK S (sPb S (h.2.1 r) j h).1 D' r j (D r) (sPb S (h.2.1 r) j h).2 := sorry
theorem sPl_K {rec : Rdr} (hk : RdK S n rec) (ok : scOK S N) (hT : ∀ k, k < n → 0 ≤ T k ∧ T k < 256) {t dp : Nat} (he : e ≤ n) : ∀ (f p : Nat) (σ σ' : Sg) (x x' : It) (D : Nat → Nat), sPl S T t j e dp rec f p σ x = .inr (σ', x') → p ≤ e → hIn S σ.1 D → r < σ.1.1 → t = σ.1.2.1 r → j < fCt S (σ.1.2.1 r) → D r = dp → pOK S σ.1 D r j dp x → ∃ D', rdQ S (r + 1) σ σ' D D' ∧ pOK S σ'.1 D' r j dp x' := sorry
end Sf
end
section
section Sf
variable {S : SF} {N : NF} {h h' h'' : He} {D D' D'' : Nat → Nat} {r j e p n : Nat} {T : Nat → Int} {k : Int}
theorem hEnt_K (i : hIn S h D) (ok : scOK S N) (hr : r < h.1) (hj : j < fCt S (h.2.1 r)) (h3 : S 11 (h.2.1 r) j ≠ 3) (h12 : S 12 (h.2.1 r) j = 12) (hd : D r + 1 ≤ 12) :
    ∃ D', hIn S (hEnt S h r j).1 D' ∧ (∀ a, a < h.1 → D' a = D a) ∧ hKp r h (hEnt S h r j).1 ∧ r < (hEnt S h r j).2 ∧ (hEnt S h r j).2 < (hEnt S h r j).1.1 ∧ D' (hEnt S h r j).2 = D r + 1 := sorry
theorem sOwn_K {rec : Rdr} (hk : RdK S n rec) (ok : scOK S N) (hT : ∀ k, k < n → 0 ≤ T k ∧ T k < 256) {c dp q p' : Nat} {w : Int} {σ σ' : Sg} (e1 : sOwn S N T rec c r e dp p σ j w q = .inr (p', σ')) (he : e ≤ n) (hq : q ≤ e) (i : hIn S σ.1 D) (hr : r < σ.1.1) (hj : j < fCt S (σ.1.2.1 r)) (hd : D r = dp) (z4 : ¬ 4400 < σ.2.1 + 2) :
    (q < p' ∧ p' ≤ e) ∧ ∃ D', rdQ S r σ σ' D D' := sorry
theorem sFld_K {rec : Rdr} (hk : RdK S n rec) (ok : scOK S N) (hT : ∀ k, k < n → 0 ≤ T k ∧ T k < 256) {c dp p' : Nat} {σ σ' : Sg} (e1 : sFld S N T rec c r e dp p σ = .inr (p', σ')) (he : e ≤ n) (hp : p ≤ e) (i : hIn S σ.1 D) (hr : r < σ.1.1) (hd : D r = dp) :
    (p < p' ∧ p' ≤ e) ∧ ∃ D', rdQ S r σ σ' D D' := sorry
theorem sRec_K (ok : scOK S N) (hT : ∀ k, k < n → 0 ≤ T k ∧ T k < 256) : ∀ c, RdK S n (sRec S N T c) := sorry
end Sf
end
section
section Cd
variable {μ μ' μ'' : ab_M} {d : Nat} {T : Nat → Int} {n : Nat} {S : SF} {N : NF} {A cr ci cb kS b ar L i0 u0 : Nat} {σ σ' : Sg} {h h' h'' : He} {X : Rsv} {Vc Vc' Vc'' : Nat → Nat → List It} {r j e p q it us t : Nat} {x0 : Nat × Nat × It}
def frSd (A : Nat) (μ μ' : ab_M) : Prop := (∀ a i, ¬ inM A a → a ≠ 2 → (a ≠ 1 ∨ i ≠ 26 ∧ i ≠ 27 ∧ i ≠ 28) → μ' a i = μ a i) ∧ ∀ i, i < 3 → μ' A i = μ A i
theorem frSd.refl : frSd A μ μ := sorry
theorem frSd.trans (f : frSd A μ μ') (g : frSd A μ' μ'') : frSd A μ μ'' := sorry
theorem frM.sd (f : frM A μ μ') : frSd A μ μ' := sorry
theorem frG.m (f : frG μ μ') (hm : isM A cr ci cb) {a : Nat} (ha : inM A a) (i : Nat) : μ' a i = μ a i := sorry
theorem frG.sd (f : frG μ μ') (hm : isM A cr ci cb) : frSd A μ μ' := sorry
theorem cMS.g (c : cMS μ A kS b S N) (hm : isM A cr ci cb) (f : frG μ μ') : cMS μ' A kS b S N := sorry
def RfSd (run : ab_R) (A : Nat) (μ : ab_M) (f : Flt) : Prop := RT run (fun μ' => μ' 2 6 = f.1 ∧ μ' 2 7 = f.2 ∧ frSd A μ μ')
theorem RfG.sd {run : ab_R} {f : Flt} (g : RfG run μ f) (hm : isM A cr ci cb) : RfSd run A μ f := sorry
theorem RfSd.to {run : ab_R} {f : Flt} (g : RfSd run A μ' f) (q : frSd A μ μ') : RfSd run A μ f := sorry
theorem CM.g {nr : Nat} {ty : Nat → Nat} {V : Nat → Nat → List It} {U : Nat → List Un} {ni nu : Nat} (c : CM X S μ A cr ci cb nr ty V U ni nu us) (hm : isM A cr ci cb) (f : frG μ μ') : CM X S μ' A cr ci cb nr ty V U ni nu us := sorry
theorem it_fr {f g x : Nat} (hg : msO g ≠ 0) (h : f = g → x ≠ it) {v : Int} : ab_up μ (msA A g) it v (msA A f) x = μ (msA A f) x := sorry
theorem frM.itm {g : Nat} {v : Int} (hg : msO g ≠ 0) (h10 : g ≠ 10) : frM A μ (ab_up μ (msA A g) it v) := sorry
theorem CM.resN {nr : Nat} {ty : Nat → Nat} {V : Nat → Nat → List It} {U : Nat → List Un} {ni nu : Nat} {v : Int} (c : CM X S μ A cr ci cb nr ty V U ni nu us) (hx : X it = some x0) : CM (upL X it (some (0, 0, itN v))) S (ab_up μ (msA A 18) it v) A cr ci cb nr ty V U ni nu us := sorry
theorem CM.resR {nr : Nat} {ty : Nat → Nat} {V : Nat → Nat → List It} {U : Nat → List Un} {ni nu x : Nat} (c : CM X S μ A cr ci cb nr ty V U ni nu us) (hx : X it = some x0) : CM (upL X it (some (2, 0, itR x))) S (ab_up μ (msA A 21) it (x : Int)) A cr ci cb nr ty V U ni nu us := sorry
def rtM (μ : ab_M) (A it us a o n : Nat) : ab_M := ab_up (ab_up (ab_cp (ab_up μ (msA A 20) it (n : Int)) a o (msA A 32) us n) A 33 ((us + n : Nat) : Int)) (msA A 19) it (us : Int)
theorem CM.resT {nr : Nat} {ty : Nat → Nat} {V : Nat → Nat → List It} {U : Nat → List Un} {ni nu a o : Nat} {l : List Int} (c : CM X S μ A cr ci cb nr ty V U ni nu us) (hx : X it = some x0) (na : ¬ inM A a) (hb : cBy μ a o l) (hu : us + l.length ≤ cb) : CM (upL X it (some (1, 0, itT l))) S (rtM μ A it us a o l.length) A cr ci cb nr ty V U ni nu (us + l.length) ∧ frM A μ (rtM μ A it us a o l.length) := sorry
def CSd (S : SF) (N : NF) (T : Nat → Int) (n A kS b ar L : Nat) (X : Rsv) (i0 u0 : Nat) (μ : ab_M) (p : Nat) (σ : Sg) (Vc : Nat → Nat → List It) : Prop := (cIn μ ar L n T ∧ ¬ inM A ar ∧ L < 100000) ∧ μ 1 26 = p ∧ cMS μ A kS b S N ∧ (σ.2.1 ≤ 4400 ∧ σ.2.2 ≤ 8800) ∧ ∃ ni nu us, CM X S μ A 2600 9000 12000 σ.1.1 σ.1.2.1 Vc σ.1.2.2.2 ni nu us ∧ 2 * σ.1.1 ≤ 2 + σ.2.1 ∧ ni + i0 ≤ σ.2.1 ∧ nu ≤ σ.2.1 ∧ us + u0 ≤ σ.2.2
theorem cIn.fr (c : cIn μ ar L n T) (na : ¬ inM A ar) (f : frSd A μ μ') (hm : isM A cr ci cb) : cIn μ' ar L n T := sorry
theorem cIn.by (c : cIn μ ar L n T) {u : Nat} (h : q + u ≤ n) : cBy μ ar q (slc T q u) := sorry
theorem CSd.mv (c : CSd S N T n A kS b ar L X i0 u0 μ p σ Vc) (hm : isM A 2600 9000 12000) (f : frG μ μ') (hat : μ' 1 26 = q) : CSd S N T n A kS b ar L X i0 u0 μ' q σ Vc := sorry
theorem c_needUtf8 {k : Int} {u : Nat} (c : cIn μ ar L n T) (h : q + u ≤ n) (hL : L < 100000) : (k = 9 ∧ utf (slc T q u) = false → RfG (ab_run wc (d + 2) 457 0 [(2, 1), (2, (200000 + k)), (0, q), (0, u)] [] μ) μ (5, (q : Int))) ∧ (¬ (k = 9 ∧ utf (slc T q u) = false) → (ab_run wc (d + 2) 457 0 [(2, 1), (2, (200000 + k)), (0, q), (0, u)] [] μ) = some ((3, 0), μ)) := sorry
theorem c_sItemT {u : Nat} {fr dp : Int} (hm : isM A 2600 9000 12000) (c : CSd S N T n A kS b ar L X i0 u0 μ q σ Vc) (hx : X it = some x0) (ht : (t : Int) < S 0 0 0 ∧ S 2 t 0 = 1) (hj : j < fCt S t) (k9 : S 12 t j = 9 ∨ S 12 t j = 10) (hq : q + u ≤ n) (hb : σ.2.2 + u ≤ 8800) :
    (S 12 t j = 9 ∧ utf (slc T q u) = false → RfSd (ab_run wc (d + 3) 539 0 [(2, 1), (2, A), (0, it), (2, (fdA b t j)), (0, fr), (0, (((q + u : Nat) : Int))), (0, dp)] [] μ) A μ (5, (q : Int))) ∧ (¬ (S 12 t j = 9 ∧ utf (slc T q u) = false) → R3 (ab_run wc (d + 3) 539 0 [(2, 1), (2, A), (0, it), (2, (fdA b t j)), (0, fr), (0, (((q + u : Nat) : Int))), (0, dp)] [] μ) (fun μ' => CSd S N T n A kS b ar L (upL X it (some (1, 0, itT (slc T q u)))) i0 u0 μ' (q + u) (σ.1, σ.2.1, σ.2.2 + u) Vc ∧ frSd A μ μ')) := sorry
end Cd
end
section
section Cd
variable {μ μ' μ'' : ab_M} {d : Nat} {T : Nat → Int} {n : Nat} {S : SF} {N : NF} {A cr ci cb kS b ar L i0 u0 : Nat} {σ σ' : Sg} {h h' h'' : He} {X : Rsv} {Vc Vc' Vc'' : Nat → Nat → List It} {r j e p q it us t : Nat} {x0 : Nat × Nat × It} {Dp : Nat → Nat}
def kps (r : Nat) (h h' : He) (Vc Vc' : Nat → Nat → List It) : Prop := hKp r h h' ∧ ∀ a, a < r → Vc' a = Vc a
theorem kps.refl : kps r h h Vc Vc := sorry
theorem kps.trans (a : kps r h h' Vc Vc') (b : kps r h' h'' Vc' Vc'') : kps r h h'' Vc Vc'' := sorry
theorem kps.le {r' : Nat} (a : kps r h h' Vc Vc') (l : r' ≤ r) : kps r' h h' Vc Vc' := sorry
theorem agr.nst {r' : Nat} (a : agr r h Vc) (k : kps r' h h' Vc Vc') (g : agr r' h' Vc') : agr r h' Vc' := sorry
def cRz (S : SF) (N : NF) (T : Nat → Int) (n A kS b ar L : Nat) (run : ab_R) (μ : ab_M) (X : Rsv) (i0 u0 r : Nat) (h : He) (Vc : Nat → Nat → List It) : Flt ⊕ (Nat × Sg) → Prop
  | .inl f => RfSd run A μ f
  | .inr (p, σ') => R3 run (fun μ' => ∃ Vc', CSd S N T n A kS b ar L X i0 u0 μ' p σ' Vc' ∧ agr r σ'.1 Vc' ∧ kps r h σ'.1 Vc Vc' ∧ frSd A μ μ')
def sBe (e : Nat) : Flt ⊕ Sg → Flt ⊕ (Nat × Sg)
  | .inl g => .inl g
  | .inr σ' => .inr (e, σ')
def PSd (S : SF) (N : NF) (T : Nat → Int) (n A kS b ar L : Nat) (rec : Rdr) : Prop := ∀ (D : Nat) (μ : ab_M) (r e dp p : Nat) (σ : Sg) (X : Rsv) (i0 u0 : Nat) (Vc : Nat → Nat → List It) (Dp : Nat → Nat), 4 * (12 - dp) + 12 ≤ D → dp ≤ 12 → p ≤ e → e ≤ n → CSd S N T n A kS b ar L X i0 u0 μ p σ Vc → agr r σ.1 Vc → hIn S σ.1 Dp → r < σ.1.1 → Dp r = dp → rec r e dp p σ ≠ .inl ovr →
  cRz S N T n A kS b ar L (ab_run wc D 538 0 [(2, 1), (2, A), (0, r), (0, e), (0, dp), (3, 0), (3, 0), (3, 0), (3, 0), (3, 0), (3, 0), (3, 0)] [] μ) μ X i0 u0 r σ.1 Vc (sBe e (rec r e dp p σ))
theorem CSd.tyr (c : CSd S N T n A kS b ar L X i0 u0 μ p σ Vc) (hr : r < σ.1.1) : ((σ.1.2.1 r : Int) < S 0 0 0 ∧ S 2 (σ.1.2.1 r) 0 = 1) ∧ μ (msA A 4) r = σ.1.2.1 r ∧ σ.1.1 ≤ 2600 := sorry
theorem c_sItemR {rec : Rdr} {D dp u : Nat} {fr : Int} {t' : Nat} {h1 : He} {D1 : Nat → Nat} (ih : PSd S N T n A kS b ar L rec) (hD : 4 * (11 - dp) + 13 ≤ D) (hdp : dp < 12) (hm : isM A 2600 9000 12000) (c : CSd S N T n A kS b ar L X i0 u0 μ q σ Vc) (hx : X it = some x0) (ht : (t : Int) < S 0 0 0 ∧ S 2 t 0 = 1) (hj : j < fCt S t) (k12 : S 12 t j = 12) (k13 : S 13 t j = t') (ht' : (t' : Int) < S 0 0 0 ∧ S 2 t' 0 = 1) (hq : q + u ≤ n) (hn : 2 * (σ.1.1 + 1) ≤ 2 + σ.2.1)
    (e1 : h1.1 = σ.1.1 + 1) (e2 : h1.2.1 = upT σ.1.2.1 σ.1.1 t') (e3 : h1.2.2.2 = nwU σ.1.2.2.2 σ.1.1) (e4 : agr σ.1.1 h1 (nwV Vc σ.1.1)) (i : hIn S h1 D1) (hd : D1 σ.1.1 = dp + 1) (no : rec σ.1.1 (q + u) (dp + 1) q (h1, σ.2) ≠ .inl ovr) :
    (∀ g, rec σ.1.1 (q + u) (dp + 1) q (h1, σ.2) = .inl g → RfSd (ab_run wc D 539 0 [(2, 1), (2, A), (0, it), (2, (fdA b t j)), (0, fr), (0, (((q + u : Nat) : Int))), (0, dp)] [] μ) A μ g) ∧ (∀ σ', rec σ.1.1 (q + u) (dp + 1) q (h1, σ.2) = .inr σ' → R3 (ab_run wc D 539 0 [(2, 1), (2, A), (0, it), (2, (fdA b t j)), (0, fr), (0, (((q + u : Nat) : Int))), (0, dp)] [] μ) (fun μ' => ∃ Vc', CSd S N T n A kS b ar L (upL X it (some (2, 0, itR σ.1.1))) i0 u0 μ' (q + u) σ' Vc' ∧ agr σ.1.1 σ'.1 Vc' ∧ kps σ.1.1 h1 σ'.1 (nwV Vc σ.1.1) Vc' ∧ frSd A μ μ')) := sorry
def vlI (S : SF) (t j : Nat) (x : It) : Nat × Nat × It := (fSo (S 12 t j), 0, (0, [], x.2.2))
theorem c_startItem (hm : isM A 2600 9000 12000) (ms : cMS μ A kS b S N) (cm : CM X S μ A 2600 9000 12000 σ.1.1 σ.1.2.1 Vc σ.1.2.2.2 i0 u0 us) (hx : X it = some x0) (ht : (t : Int) < S 0 0 0 ∧ S 2 t 0 = 1) (hj : j < fCt S t) (hn : S 12 t j = 12 → σ.1.1 < 2600) :
    R3 (ab_run wc (d + 3) 534 0 [(2, 1), (2, A), (0, it), (2, (fdA b t j))] [] μ) (fun μ' => CM (upL X it (some (vlI S t j (sPb S t j σ.1).2))) S μ' A 2600 9000 12000 (sPb S t j σ.1).1.1 (sPb S t j σ.1).1.2.1 (if S 12 t j = 12 then nwV Vc σ.1.1 else Vc) (sPb S t j σ.1).1.2.2.2 i0 u0 us ∧ frM A μ μ') := sorry
end Cd
end
section
section Cd
variable {μ μ' μ'' : ab_M} {d : Nat} {T : Nat → Int} {n : Nat} {S : SF} {N : NF} {A cr ci cb kS b ar L i0 u0 : Nat} {σ σ' : Sg} {h h' h'' : He} {X : Rsv} {Vc Vc' Vc'' : Nat → Nat → List It} {r j e p q it us t : Nat} {x0 : Nat × Nat × It} {Dp : Nat → Nat}
theorem CSd.w (c : CSd S N T n A kS b ar L X i0 u0 μ p σ Vc) {i1 u1 a1 b1 : Nat} (ha : a1 ≤ 4400) (hb : b1 ≤ 8800) (h1 : σ.2.1 ≤ a1) (h2 : i1 + σ.2.1 ≤ i0 + a1) (h3 : u1 + σ.2.2 ≤ u0 + b1) : CSd S N T n A kS b ar L X i1 u1 μ p (σ.1, a1, b1) Vc := sorry
theorem upL_2 {f : Nat → Option (Nat × Nat × It)} {a c : Option (Nat × Nat × It)} : upL (upL f it a) it c = upL f it c := sorry
theorem c_rkS (hm : isM A 2600 9000 12000) (c : CSd S N T n A kS b ar L X i0 u0 μ p σ Vc) (he : e ≤ n) (hp : p ≤ e) :
    (∀ g, rkY T e p = .inl g → RfSd (ab_run wc (d + 3) 489 0 [(2, 1), (0, e), (3, 0), (3, 0), (3, 0), (3, 0), (3, 0)] [] μ) A μ g) ∧ ∀ m w q, rkY T e p = .inr (m, w, q) → ∃ μ1, (ab_run wc (d + 3) 489 0 [(2, 1), (0, e), (3, 0), (3, 0), (3, 0), (3, 0), (3, 0)] [] μ) = some ((3, 0), μ1) ∧ μ1 1 26 = q ∧ μ1 1 27 = m ∧ μ1 1 28 = w ∧ CSd S N T n A kS b ar L X i0 u0 μ1 q σ Vc ∧ frSd A μ μ1 := sorry
theorem c_scN {k : Int} (hm : isM A 2600 9000 12000) (c : CSd S N T n A kS b ar L X i0 u0 μ q σ Vc) (h1 : 0 ≤ k) (h2 : k ≤ 12) (he : e ≤ n) (hq : q ≤ e) (z : ¬ (k = 9 ∨ k = 10)) : (∀ g, scR k T e q = .inl g → RfSd (ab_run wc (d + 3) 541 0 [(2, 1), (2, (200000 + k)), (0, e), (3, 0), (3, 0)] [] μ) A μ g) ∧ ∀ v l q', scR k T e q = .inr (v, l, q') → l = [] ∧ ∃ μ1, (ab_run wc (d + 3) 541 0 [(2, 1), (2, (200000 + k)), (0, e), (3, 0), (3, 0)] [] μ) = some ((1, v), μ1) ∧ CSd S N T n A kS b ar L X i0 u0 μ1 q' σ Vc ∧ frSd A μ μ1 := sorry
theorem c_stS (hm : isM A 2600 9000 12000) (c : CSd S N T n A kS b ar L X i0 u0 μ q σ Vc) (he : e ≤ n) (hq : q ≤ e) : (∀ g, mny T e q = .inl g → RfSd (ab_run wc (d + 3) 544 0 [(2, 1), (0, e), (3, 0), (3, 0)] [] μ) A μ g) ∧ ∀ u q', mny T e q = .inr (u, q') → ∃ μ1, (ab_run wc (d + 3) 544 0 [(2, 1), (0, e), (3, 0), (3, 0)] [] μ) = some ((0, ((q' + u : Nat) : Int)), μ1) ∧ μ1 1 26 = q' ∧ CSd S N T n A kS b ar L X i0 u0 μ1 q' σ Vc ∧ frSd A μ μ1 ∧ q < q' ∧ q' + u ≤ e := sorry
theorem c_psS {w : Int} (hm : isM A 2600 9000 12000) (c : CSd S N T n A kS b ar L X i0 u0 μ q σ Vc) (he : e ≤ n) (hq : q ≤ e) : (∀ g, psV w T e q = .inl g → RfSd (ab_run wc (d + 4) 468 0 [(2, 1), (0, w), (0, e)] [] μ) A μ g) ∧ ∀ q', psV w T e q = .inr q' → ∃ μ1, (ab_run wc (d + 4) 468 0 [(2, 1), (0, w), (0, e)] [] μ) = some ((3, 0), μ1) ∧ μ1 1 26 = q' ∧ CSd S N T n A kS b ar L X i0 u0 μ1 q' σ Vc ∧ frSd A μ μ1 ∧ q ≤ q' ∧ q' ≤ e ∧ (∀ a i, (a ≠ 1 ∨ i ≠ 26) → μ1 a i = μ a i) := sorry
theorem c_se26 {rec : Rdr} {D dp s : Nat} {mk : Int} (ih : PSd S N T n A kS b ar L rec) (hk : RdK S n rec) (ok : scOK S N) (hD : 4 * (12 - dp) + 11 ≤ D) (hdp : dp ≤ 12) (hm : isM A 2600 9000 12000) (he : e ≤ n) : ∀ (f p : Nat) (σ : Sg) (x : It) (μ : ab_M) (Vc : Nat → Nat → List It) (Dp : Nat → Nat) (kf : Nat), p ≤ e → CSd S N T n A kS b ar L (upL X it (some (vlI S t j x))) (i0 + 1) (u0 + x.2.1.length) μ p σ Vc → agr r σ.1 Vc → hIn S σ.1 Dp → r < σ.1.1 → t = σ.1.2.1 r → j < fCt S (σ.1.2.1 r) → S 11 t j = 3 → Dp r = dp → pOK S σ.1 Dp r j dp x → x.2.1 = slc T kf x.2.1.length → kf + x.2.1.length ≤ n → sPl S T t j e dp rec f p σ x ≠ .inl ovr →
    (∀ g, sPl S T t j e dp rec f p σ x = .inl g → RfSd (ab_run wc D 536 26 [(2, 1), (2, A), (0, s), (2, (fdA b t j)), (0, mk), (0, e), (0, dp), (1, (x.1)), (3, 0), (0, kf), (0, (x.2.1.length)), (0, it), (3, 0), (3, 0)] [] μ) A μ g) ∧ ∀ σ' x', sPl S T t j e dp rec f p σ x = .inr (σ', x') → ∃ (μ' : ab_M) (Vc' : Nat → Nat → List It) (kf' : Nat), (ab_run wc D 536 26 [(2, 1), (2, A), (0, s), (2, (fdA b t j)), (0, mk), (0, e), (0, dp), (1, (x.1)), (3, 0), (0, kf), (0, (x.2.1.length)), (0, it), (3, 0), (3, 0)] [] μ) = (ab_run wc D 536 26 [(2, 1), (2, A), (0, s), (2, (fdA b t j)), (0, mk), (0, e), (0, dp), (1, (x'.1)), (3, 0), (0, (kf')), (0, (x'.2.1.length)), (0, it), (3, 0), (3, 0)] [] μ') ∧ CSd S N T n A kS b ar L (upL X it (some (vlI S t j x'))) (i0 + 1) (u0 + x'.2.1.length) μ' e σ' Vc' ∧ agr r σ'.1 Vc' ∧ kps (r + 1) σ.1 σ'.1 Vc Vc' ∧ x'.2.1 = slc T kf' x'.2.1.length ∧ kf' + x'.2.1.length ≤ n ∧ frSd A μ μ' := sorry
end Cd
end
section
section Cd
variable {μ μ' μ'' : ab_M} {d : Nat} {T : Nat → Int} {n : Nat} {S : SF} {N : NF} {A cr ci cb kS b ar L i0 u0 : Nat} {σ σ' : Sg} {h h' h'' : He} {X : Rsv} {Vc Vc' Vc'' : Nat → Nat → List It} {r j e p q it us t : Nat} {x0 : Nat × Nat × It} {Dp : Nat → Nat} {x : It}
theorem kTD_at {k v : Int} {l : List Int} {u : It} {M : List It} (hu : ¬ kyC k u v l < 0) : ∀ {B : List It}, (∀ a ∈ B, kyC k a v l < 0) → kTk k v l (B ++ u :: M) = B ∧ kDp k v l (B ++ u :: M) = u :: M := sorry
theorem c_se306 {nr : Nat} {ty : Nat → Nat} {V : Nat → Nat → List It} {U : Nat → List Un} {ni nu s p i2 : Nat} {t0 : It} (hm : isM A 2600 9000 12000) (cm : CM X S μ A 2600 9000 12000 nr ty V U ni nu us) (hx : X it = some (vlI S (ty r) j x)) (hr : r < nr) (hj : j < fCt S (ty r)) (m3 : S 11 (ty r) j = 3) (hs : μ (msA A 5) r + j = s) (hp : (V r j)[p]? = some t0) (hi : itm μ A s p = i2) (hh : x.2.2.2.2 ≠ hole) :
    R3 (ab_run wc (d + 1) 536 306 [(3, 0), (2, A), (3, 0), (3, 0), (3, 0), (3, 0), (3, 0), (3, 0), (3, 0), (3, 0), (3, 0), (0, it), (0, i2), (3, 0)] [] μ) (fun μ' => CM X S μ' A 2600 9000 12000 nr ty (upV V r j ((V r j).set p (t0.1, t0.2.1, x.2.2))) U ni nu us ∧ frM A μ μ') := sorry
theorem c_seEnd {D dp s kf : Nat} {mk : Int} (hD : 11 ≤ D) (hm : isM A 2600 9000 12000) (c : CSd S N T n A kS b ar L (upL X it (some (vlI S t j x))) (i0 + 1) (u0 + x.2.1.length) μ e σ Vc) (hx0 : X it = none) (ag : agr r σ.1 Vc) (i : hIn S σ.1 Dp) (hr : r < σ.1.1) (ht : t = σ.1.2.1 r) (hj : j < fCt S (σ.1.2.1 r)) (m3 : S 11 t j = 3) (px : pOK S σ.1 Dp r j dp x) (ks : x.2.1 = slc T kf x.2.1.length) (kn : kf + x.2.1.length ≤ n) (hs : s = bsF S σ.1.2.1 r + j) :
    (S 12 t j = 12 ∧ dp = 12 → RfSd (ab_run wc D 536 26 [(2, 1), (2, A), (0, s), (2, (fdA b t j)), (0, mk), (0, e), (0, dp), (1, (x.1)), (3, 0), (0, kf), (0, (x.2.1.length)), (0, it), (3, 0), (3, 0)] [] μ) A μ (6, mk)) ∧ (¬ (S 12 t j = 12 ∧ dp = 12) → R3 (ab_run wc D 536 26 [(2, 1), (2, A), (0, s), (2, (fdA b t j)), (0, mk), (0, e), (0, dp), (1, (x.1)), (3, 0), (0, kf), (0, (x.2.1.length)), (0, it), (3, 0), (3, 0)] [] μ) (fun μ' => CSd S N T n A kS b ar L X i0 u0 μ' e (hPair S σ.1 r j x, σ.2) (upV Vc r j (kPt (S 14 t j) x (Vc r j))) ∧ frSd A μ μ')) := sorry
end Cd
end
section
section Cd
variable {μ μ' μ'' : ab_M} {d : Nat} {T : Nat → Int} {n : Nat} {S : SF} {N : NF} {A cr ci cb kS b ar L i0 u0 : Nat} {σ σ' : Sg} {h h' h'' : He} {X : Rsv} {Vc Vc' Vc'' : Nat → Nat → List It} {r j e p q it us t : Nat} {x0 : Nat × Nat × It} {Dp : Nat → Nat}
theorem dfB_iff {v : Int} {l : List Int} : dfB S N t j v l = true ↔ isPl S t j ∧ isDf S N t j v l := sorry
theorem hSet_1 {v : Int} {l : List Int} (h2 : S 11 (h.2.1 r) j < 2) : hSet S N h r j (0, []) v l = (h.1, h.2.1, upV (lvO S (h.2.1 r) r j h.2.2.1) r j (if dfB S N (h.2.1 r) j v l = true then [] else [(0, [], v, l, 0)]), h.2.2.2) := sorry
theorem hSet_2 {v : Int} {l : List Int} (h2 : S 11 (h.2.1 r) j = 2) : hSet S N h r j (0, []) v l = (h.1, h.2.1, upV h.2.2.1 r j (h.2.2.1 r j ++ [(0, [], v, l, 0)]), h.2.2.2) := sorry
theorem hRec_1 (h2 : S 11 (h.2.1 r) j < 2) (e : S 13 (h.2.1 r) j = t) : hRec S h r j (0, []) = (h.1 + 1, upT h.2.1 h.1 t, upV (nwV (lvO S (h.2.1 r) r j h.2.2.1) h.1) r j [itR h.1], nwU h.2.2.2 h.1) := sorry
theorem hRec_2 (h2 : S 11 (h.2.1 r) j = 2) (e : S 13 (h.2.1 r) j = t) : hRec S h r j (0, []) = (h.1 + 1, upT h.2.1 h.1 t, upV (nwV h.2.2.1 h.1) r j (h.2.2.1 r j ++ [itR h.1]), nwU h.2.2.2 h.1) := sorry
theorem nwV_at {a m : Nat} {V V' : Nat → Nat → List It} (e : V a = V' a) : nwV V m a = nwV V' m a := sorry
theorem c_sField {rec : Rdr} {D dp c : Nat} {w : Int} (ih : PSd S N T n A kS b ar L rec) (ok : scOK S N) (hD : 4 * (12 - dp) + 11 ≤ D) (hdp : dp ≤ 12) (hm : isM A 2600 9000 12000) (cc : CSd S N T n A kS b ar L X i0 u0 μ q σ Vc) (ag : agr r σ.1 Vc) (i : hIn S σ.1 Dp) (hr : r < σ.1.1) (hj : j < fCt S (σ.1.2.1 r)) (h2 : S 11 (σ.1.2.1 r) j < 2) (hd : Dp r = dp) (he : e ≤ n) (hq : q ≤ e) (z4 : ¬ 4400 < σ.2.1 + 2) (no : sOwn S N T rec c r e dp p σ j w q ≠ .inl ovr) :
    cRz S N T n A kS b ar L (ab_run wc D 537 0 [(2, 1), (2, A), (0, r), (0, j), (2, (fdA b (σ.1.2.1 r) j)), (0, p), (0, e), (0, dp), (3, 0)] [] μ) μ X i0 u0 r σ.1 Vc (sOwn S N T rec c r e dp p σ j w q) := sorry
theorem c_pk1 {D lim : Nat} {last dp e : Int} (hD : 8 ≤ D) (hm : isM A 2600 9000 12000) (cc : CSd S N T n A kS b ar L X i0 u0 μ q σ Vc) (ag : agr r σ.1 Vc) (hr : r < σ.1.1) (hj : j < fCt S (σ.1.2.1 r)) (pa : sPac S (σ.1.2.1 r) j) (hl : lim ≤ n) (hq : q ≤ lim) (nl : (q : Int) ≠ last) (hx : if last < 0 then e = lim else last = lim) {a1 : Nat} (ha : σ.2.1 + 1 ≤ a1) (ha4 : a1 ≤ 4400) :
    (∀ g, nmR (S 12 (σ.1.2.1 r) j) T lim q = .inl g → RfSd (ab_run wc D 538 193 [(2, 1), (2, A), (0, r), (0, e), (0, dp), (3, 0), (2, (fdA b (σ.1.2.1 r) j)), (3, 0), (3, 0), (0, j), (0, last), (3, 0)] [] μ) A μ g) ∧ ∀ v q', nmR (S 12 (σ.1.2.1 r) j) T lim q = .inr (v, q') → ∃ μ', (ab_run wc D 538 193 [(2, 1), (2, A), (0, r), (0, e), (0, dp), (3, 0), (2, (fdA b (σ.1.2.1 r) j)), (3, 0), (3, 0), (0, j), (0, last), (3, 0)] [] μ) = (if (q' : Int) < last then (ab_run wc D 538 193 [(2, 1), (2, A), (0, r), (0, e), (0, dp), (3, 0), (2, (fdA b (σ.1.2.1 r) j)), (3, 0), (3, 0), (0, j), (0, last), (3, 0)] [] μ') else (ab_run wc D 538 0 [(2, 1), (2, A), (0, r), (0, e), (0, dp), (3, 0), (3, 0), (3, 0), (3, 0), (3, 0), (3, 0), (3, 0)] [] μ')) ∧ CSd S N T n A kS b ar L X i0 u0 μ' q' (hSet S N σ.1 r j (0, []) v [], a1, σ.2.2) (upV Vc r j (Vc r j ++ [itN v])) ∧ agr r (hSet S N σ.1 r j (0, []) v []) (upV Vc r j (Vc r j ++ [itN v])) ∧ frSd A μ μ' := sorry
theorem c_pkL {D last : Nat} {dp e : Int} (hD : 8 ≤ D) (hm : isM A 2600 9000 12000) (hl : last ≤ n) : ∀ (f q : Nat) (σ : Sg) (μ : ab_M) (Vc : Nat → Nat → List It), CSd S N T n A kS b ar L X i0 u0 μ q σ Vc → agr r σ.1 Vc → r < σ.1.1 → j < fCt S (σ.1.2.1 r) → sPac S (σ.1.2.1 r) j → q ≤ last → sPk S N T r j last f q σ ≠ .inl ovr →
    (∀ g, sPk S N T r j last f q σ = .inl g → RfSd (ab_run wc D 538 193 [(2, 1), (2, A), (0, r), (0, e), (0, dp), (3, 0), (2, (fdA b (σ.1.2.1 r) j)), (3, 0), (3, 0), (0, j), (0, last), (3, 0)] [] μ) A μ g) ∧ ∀ σ', sPk S N T r j last f q σ = .inr σ' → ∃ μ' Vc', (ab_run wc D 538 193 [(2, 1), (2, A), (0, r), (0, e), (0, dp), (3, 0), (2, (fdA b (σ.1.2.1 r) j)), (3, 0), (3, 0), (0, j), (0, last), (3, 0)] [] μ) = (ab_run wc D 538 0 [(2, 1), (2, A), (0, r), (0, e), (0, dp), (3, 0), (3, 0), (3, 0), (3, 0), (3, 0), (3, 0), (3, 0)] [] μ') ∧ CSd S N T n A kS b ar L X i0 u0 μ' last σ' Vc' ∧ agr r σ'.1 Vc' ∧ kps r σ.1 σ'.1 Vc Vc' ∧ frSd A μ μ' := sorry
end Cd
end
section
section Cd
variable {μ μ' μ'' : ab_M} {d : Nat} {T : Nat → Int} {n : Nat} {S : SF} {N : NF} {A cr ci cb kS b ar L i0 u0 : Nat} {σ σ' : Sg} {h h' h'' : He} {X : Rsv} {Vc Vc' Vc'' : Nat → Nat → List It} {r j e p q it us t : Nat} {x0 : Nat × Nat × It} {Dp : Nat → Nat}
def cFz (S : SF) (N : NF) (T : Nat → Int) (n A kS b ar L : Nat) (run : ab_R) (lp : ab_M → ab_R) (μ : ab_M) (X : Rsv) (i0 u0 r : Nat) (h : He) (Vc : Nat → Nat → List It) : Flt ⊕ (Nat × Sg) → Prop
  | .inl f => RfSd run A μ f
  | .inr (p, σ') => ∃ μ' Vc', run = lp μ' ∧ CSd S N T n A kS b ar L X i0 u0 μ' p σ' Vc' ∧ agr r σ'.1 Vc' ∧ kps r h σ'.1 Vc Vc' ∧ frSd A μ μ'
theorem cFz.to {run run' : ab_R} {lp : ab_M → ab_R} {R : Flt ⊕ (Nat × Sg)} (x : cFz S N T n A kS b ar L run lp μ' X i0 u0 r h Vc R) (f : frSd A μ μ') (e : run' = run) : cFz S N T n A kS b ar L run' lp μ X i0 u0 r h Vc R := sorry
theorem c_unk114 {D m : Nat} {w dp : Int} (hD : 6 ≤ D) (hm : isM A 2600 9000 12000) (cc : CSd S N T n A kS b ar L X i0 u0 μ q σ Vc) (kn : μ 1 27 = m) (ag : agr r σ.1 Vc) (hr : r < σ.1.1) (he : e ≤ n) (hq : q ≤ e) (z4 : ¬ 4400 < σ.2.1 + 2) (lp : ab_M → ab_R) (hlp : ∀ μ, lp μ = (ab_run wc D 538 0 [(2, 1), (2, A), (0, r), (0, e), (0, dp), (3, 0), (3, 0), (3, 0), (3, 0), (3, 0), (3, 0), (3, 0)] [] μ)) (R : Flt ⊕ (Nat × Sg)) (eR : R = match psV w T e q with
      | .inl g => .inl g
      | .inr q' => if 8800 < σ.2.2 + (q' - q) then .inl ovr else .inr (q', (hUnk σ.1 r ((m : Int), w, slc T q (q' - q)), σ.2.1 + 2, σ.2.2 + (q' - q)))) (no : R ≠ .inl ovr) :
    cFz S N T n A kS b ar L (ab_run wc D 538 114 [(2, 1), (2, A), (0, r), (0, e), (0, dp), (3, 0), (3, 0), (0, w), (3, 0), (3, 0), (3, 0), (3, 0)] [] μ) lp μ X i0 u0 r σ.1 Vc R := sorry
theorem c_own158L {rec : Rdr} {D dp c F : Nat} {w : Int} (ih : PSd S N T n A kS b ar L rec) (ok : scOK S N) (hD : 4 * (12 - dp) + 12 ≤ D) (hdp : dp ≤ 12) (hm : isM A 2600 9000 12000) (cc : CSd S N T n A kS b ar L X i0 u0 μ q σ Vc) (ag : agr r σ.1 Vc) (i : hIn S σ.1 Dp) (hr : r < σ.1.1) (hj : j < fCt S (σ.1.2.1 r)) (h2 : S 11 (σ.1.2.1 r) j = 2) (np : ¬ sPac S (σ.1.2.1 r) j) (hd : Dp r = dp) (he : e ≤ n) (hq : q ≤ e) (z4 : ¬ 4400 < σ.2.1 + 2) (lp : ab_M → ab_R) (hlp : ∀ μ, lp μ = (ab_run wc D 538 0 [(2, 1), (2, A), (0, r), (0, e), (0, dp), (3, 0), (3, 0), (3, 0), (3, 0), (3, 0), (3, 0), (3, 0)] [] μ)) (hF : F = fdA b (σ.1.2.1 r) j) (no : sOwn S N T rec c r e dp p σ j w q ≠ .inl ovr) :
    cFz S N T n A kS b ar L (ab_run wc D 538 158 [(2, 1), (2, A), (0, r), (0, e), (0, dp), (0, p), (2, F), (0, w), (0, 0), (3, 0), (3, 0), (3, 0)] [] μ) lp μ X i0 u0 r σ.1 Vc (sOwn S N T rec c r e dp p σ j w q) := sorry
end Cd
end
section
section Cd
variable {μ μ' μ'' : ab_M} {d : Nat} {T : Nat → Int} {n : Nat} {S : SF} {N : NF} {A cr ci cb kS b ar L i0 u0 : Nat} {σ σ' : Sg} {h h' h'' : He} {X : Rsv} {Vc Vc' Vc'' : Nat → Nat → List It} {r j e p q it us t : Nat} {x0 : Nat × Nat × It} {Dp : Nat → Nat}
theorem c_sEntry {rec : Rdr} {D dp c s u : Nat} (ih : PSd S N T n A kS b ar L rec) (hk : RdK S n rec) (ok : scOK S N) (hD : 4 * (12 - dp) + 11 ≤ D) (hdp : dp ≤ 12) (hm : isM A 2600 9000 12000) (cc : CSd S N T n A kS b ar L X i0 u0 μ q σ Vc) (ag : agr r σ.1 Vc) (i : hIn S σ.1 Dp) (hr : r < σ.1.1) (hj : j < fCt S (σ.1.2.1 r)) (m3 : S 11 (σ.1.2.1 r) j = 3) (hd : Dp r = dp) (hu : q + u ≤ n) (z4 : ¬ 4400 < σ.2.1 + 2) (hs : s = bsF S σ.1.2.1 r + j)
    (no : sPl S T (σ.1.2.1 r) j (q + u) dp rec c q ((sPb S (σ.1.2.1 r) j σ.1).1, σ.2.1 + 2, σ.2.2) (sPb S (σ.1.2.1 r) j σ.1).2 ≠ .inl ovr) :
    (∀ g, sPl S T (σ.1.2.1 r) j (q + u) dp rec c q ((sPb S (σ.1.2.1 r) j σ.1).1, σ.2.1 + 2, σ.2.2) (sPb S (σ.1.2.1 r) j σ.1).2 = .inl g → RfSd (ab_run wc D 536 0 [(2, 1), (2, A), (0, s), (2, (fdA b (σ.1.2.1 r) j)), (0, p), (0, (((q + u : Nat) : Int))), (0, dp), (3, 0), (3, 0), (3, 0), (3, 0), (3, 0), (3, 0), (3, 0)] [] μ) A μ g) ∧
    ∀ σ' x, sPl S T (σ.1.2.1 r) j (q + u) dp rec c q ((sPb S (σ.1.2.1 r) j σ.1).1, σ.2.1 + 2, σ.2.2) (sPb S (σ.1.2.1 r) j σ.1).2 = .inr (σ', x) → (S 12 (σ.1.2.1 r) j = 12 ∧ dp = 12 → RfSd (ab_run wc D 536 0 [(2, 1), (2, A), (0, s), (2, (fdA b (σ.1.2.1 r) j)), (0, p), (0, (((q + u : Nat) : Int))), (0, dp), (3, 0), (3, 0), (3, 0), (3, 0), (3, 0), (3, 0), (3, 0)] [] μ) A μ (6, (p : Int))) ∧ (¬ (S 12 (σ.1.2.1 r) j = 12 ∧ dp = 12) → R3 (ab_run wc D 536 0 [(2, 1), (2, A), (0, s), (2, (fdA b (σ.1.2.1 r) j)), (0, p), (0, (((q + u : Nat) : Int))), (0, dp), (3, 0), (3, 0), (3, 0), (3, 0), (3, 0), (3, 0), (3, 0)] [] μ) (fun μ' => ∃ Vc', CSd S N T n A kS b ar L X i0 u0 μ' (q + u) (hPair S σ'.1 r j x, σ'.2) Vc' ∧ agr r (hPair S σ'.1 r j x) Vc' ∧ kps r σ.1 (hPair S σ'.1 r j x) Vc Vc' ∧ frSd A μ μ')) := sorry
theorem c_own158 {rec : Rdr} {D dp c F : Nat} {w : Int} (ih : PSd S N T n A kS b ar L rec) (hk : RdK S n rec) (ok : scOK S N) (hD : 4 * (12 - dp) + 12 ≤ D) (hdp : dp ≤ 12) (hm : isM A 2600 9000 12000) (cc : CSd S N T n A kS b ar L X i0 u0 μ q σ Vc) (ag : agr r σ.1 Vc) (i : hIn S σ.1 Dp) (hr : r < σ.1.1) (hj : j < fCt S (σ.1.2.1 r)) (hd : Dp r = dp) (he : e ≤ n) (hq : q ≤ e) (z4 : ¬ 4400 < σ.2.1 + 2) (lp : ab_M → ab_R) (hlp : ∀ μ, lp μ = (ab_run wc D 538 0 [(2, 1), (2, A), (0, r), (0, e), (0, dp), (3, 0), (3, 0), (3, 0), (3, 0), (3, 0), (3, 0), (3, 0)] [] μ)) (hF : F = fdA b (σ.1.2.1 r) j) (no : sOwn S N T rec c r e dp p σ j w q ≠ .inl ovr) :
    cFz S N T n A kS b ar L (ab_run wc D 538 158 [(2, 1), (2, A), (0, r), (0, e), (0, dp), (0, p), (2, F), (0, w), (0, ((if sPac S (σ.1.2.1 r) j then 1 else 0))), (3, 0), (3, 0), (3, 0)] [] μ) lp μ X i0 u0 r σ.1 Vc (sOwn S N T rec c r e dp p σ j w q) := sorry
theorem c_fld {rec : Rdr} {D dp c : Nat} (ih : PSd S N T n A kS b ar L rec) (hk : RdK S n rec) (ok : scOK S N) (hD : 4 * (12 - dp) + 12 ≤ D) (hdp : dp ≤ 12) (hm : isM A 2600 9000 12000) (cc : CSd S N T n A kS b ar L X i0 u0 μ p σ Vc) (ag : agr r σ.1 Vc) (i : hIn S σ.1 Dp) (hr : r < σ.1.1) (hd : Dp r = dp) (he : e ≤ n) (hp : p < e) (lp : ab_M → ab_R) (hlp : ∀ μ, lp μ = (ab_run wc D 538 0 [(2, 1), (2, A), (0, r), (0, e), (0, dp), (3, 0), (3, 0), (3, 0), (3, 0), (3, 0), (3, 0), (3, 0)] [] μ)) (no : sFld S N T rec c r e dp p σ ≠ .inl ovr) :
    cFz S N T n A kS b ar L (ab_run wc D 538 0 [(2, 1), (2, A), (0, r), (0, e), (0, dp), (3, 0), (3, 0), (3, 0), (3, 0), (3, 0), (3, 0), (3, 0)] [] μ) lp μ X i0 u0 r σ.1 Vc (sFld S N T rec c r e dp p σ) := sorry
theorem c_PSd (ok : scOK S N) (hT : ∀ k, k < n → 0 ≤ T k ∧ T k < 256) (hm : isM A 2600 9000 12000) : ∀ c, PSd S N T n A kS b ar L (sRec S N T c) := sorry
end Cd
end
section
section Td
variable {μ μ' μ'' : ab_M} {d : Nat} {S : SF} {N : NF} {m s : Nat} {h h' : He} {al al' : Nat → Bool} {ε ε' : Nat → Nat} {uM pM r j e : Nat} {X : RsvT} {F : Nat → Prop} {D : Nat → Nat} {v : Int} {l : List Int}
def TD (X : RsvT) (F : Nat → Prop) (S : SF) (N : NF) (m s : Nat) (μ : ab_M) (h : He) (al : Nat → Bool) (ε : Nat → Nat) (uM pM : Nat) : Prop := TS μ s S N ∧ TMo X S μ m s h.1 al h.2.1 h.2.2.1 h.2.2.2 ε uM pM ∧ TC S μ m h.1 al h.2.1 h.2.2.1 h.2.2.2 ∧ noOr S h.1 al h.2.1 h.2.2.1 F
def tdK (r : Nat) (h : He) (al al' : Nat → Bool) (ε ε' : Nat → Nat) : Prop := (∀ x, x < h.1 → x ≤ r → al x = true → al' x = true) ∧ ∀ x, x < h.1 → ε' x = ε x
theorem tdK.refl : tdK r h al al ε ε := sorry
theorem tdK.trans {al'' : Nat → Bool} {ε'' : Nat → Nat} (a : tdK r h al al' ε ε') (n : h.1 ≤ h'.1) (b : tdK r h' al' al'' ε' ε'') : tdK r h al al'' ε ε'' := sorry
theorem tdK.le {r' : Nat} (a : tdK r h al al' ε ε') (l : r' ≤ r) : tdK r' h al al' ε ε' := sorry
theorem TD.tyr (x : TD X F S N m s μ h al ε uM pM) (hr : r < h.1) (ha : al r = true) : (h.2.1 r : Int) < S 0 0 0 ∧ S 2 (h.2.1 r) 0 = 1 := sorry
theorem TD.rg (x : TD X F S N m s μ h al ε uM pM) (hr : r < h.1) (ha : al r = true) : m < 16 ∧ ε r < 73600 ∧ ε r / 4600 = m ∧ 4600 * m ≤ ε r ∧ ε r < 4600 * m + uM ∧ μ 7867 m = uM ∧ uM ≤ 4600 ∧ μ 7868 m = pM ∧ pM ≤ 9000 ∧ μ 7863 m = s := sorry
theorem TD.add (x : TD X F S N m s μ h al ε uM pM) (hr : r < h.1) (ha : al r = true) (hj : j < fCt S (h.2.1 r)) (m2 : S 11 (h.2.1 r) j = 2) (h12 : S 12 (h.2.1 r) j ≠ 12) {fi : Nat} (hu : uM < 4600) (hl : fi + l.length ≤ pM) (hb : tBy μ 7879 (9000 * m + fi) l) :
    R0 (ab_run wt (d + 3) 0 0 [(2, 7756), (0, (ε r)), (0, (fX s (h.2.1 r) j)), (1, v), (3, 0), (0, fi), (0, (l.length)), (3, 0)] [] μ) (fun _ μ' => TD X F S N m s μ' (hSet S N h r j (0, []) v l) al ε (uM + 1) pM ∧ frH m μ μ') := sorry
theorem TD.set (x : TD X F S N m s μ h al ε uM pM) (i : hIn S h D) (hr : r < h.1) (ha : al r = true) (hj : j < fCt S (h.2.1 r)) (lt2 : S 11 (h.2.1 r) j < 2) (h12 : S 12 (h.2.1 r) j ≠ 12) {fi : Nat} (hu : uM < 4600) (hl : fi + l.length ≤ pM) (hb : tBy μ 7879 (9000 * m + fi) l) :
    R3 (ab_run wt (d + 6) 284 0 [(2, 7756), (0, (ε r)), (0, (fX s (h.2.1 r) j)), (1, v), (3, 0), (0, fi), (0, (l.length)), (3, 0), (3, 0), (3, 0)] [] μ) (fun μ' => ∃ al' uM', (uM ≤ uM' ∧ uM' ≤ uM + 1) ∧ TD X F S N m s μ' (hSet S N h r j (0, []) v l) al' ε uM' pM ∧ tdK r h al al' ε ε ∧ frH m μ μ') := sorry
theorem TD.new {t' : Nat} (x : TD X F S N m s μ h al ε uM pM) (hr : r < h.1) (ha : al r = true) (hj : j < fCt S (h.2.1 r)) (m2 : S 11 (h.2.1 r) j = 2) (h12 : S 12 (h.2.1 r) j = 12) (h13 : S 13 (h.2.1 r) j = t') (tO : (t' : Int) < S 0 0 0 ∧ S 2 t' 0 = 1) (hu : uM < 4600) :
    (ab_run wt (d + 1) 171 0 [(2, 7756), (0, m), (0, (fX s (h.2.1 r) j)), (3, 0)] [] μ) = some ((0, ((4600 * m + uM : Nat) : Int)), neM μ m (fX s (h.2.1 r) j) (4600 * m + uM)) ∧ R3 (ab_run wt (d + 2) 226 0 [(2, 7756), (0, (ε r)), (0, (((4600 * m + uM : Nat) : Int))), (3, 0), (3, 0), (3, 0), (3, 0), (3, 0)] [] (neM μ m (fX s (h.2.1 r) j) (4600 * m + uM))) (fun μ' => TD X F S N m s μ' (hRec S h r j (0, [])) (upL al h.1 true) (upL ε h.1 (4600 * m + uM)) (uM + 1) pM ∧ frK m μ μ') := sorry
theorem lvO_id (i : hIn S h D) (hr : r < h.1) (hj : j < fCt S (h.2.1 r)) (hv : h.2.2.1 r j ≠ []) : lvO S (h.2.1 r) r j h.2.2.1 = h.2.2.1 := sorry
theorem TD.ent {t' : Nat} (x : TD X F S N m s μ h al ε uM pM) (i : hIn S h D) (hr : r < h.1) (ha : al r = true) (hj : j < fCt S (h.2.1 r)) (lt2 : S 11 (h.2.1 r) j < 2) (h12 : S 12 (h.2.1 r) j = 12) (h13 : S 13 (h.2.1 r) j = t') (tO : (t' : Int) < S 0 0 0 ∧ S 2 t' 0 = 1) (hu : uM < 4600) :
    R0 (ab_run wt (d + 6) 46 0 [(2, 7756), (0, (ε r)), (0, (fX s (h.2.1 r) j)), (3, 0)] [] μ) (fun v μ' => ∃ al' ε' uM', v = ε' (hEnt S h r j).2 ∧ (uM ≤ uM' ∧ uM' ≤ uM + 1) ∧ TD X F S N m s μ' (hEnt S h r j).1 al' ε' uM' pM ∧ al' (hEnt S h r j).2 = true ∧ tdK r h al al' ε ε' ∧ frK m μ μ') := sorry
theorem to_unk {n : Nat} {ty : Nat → Nat} {V : Nat → Nat → List It} {U : Nat → List Un} {u : Un} (hr : r < n) (ha : al r = true) : toV S n al ty V (upL U r (U r ++ [u])) = toV S n al ty V U + 1 ∧ toB S n al ty V (upL U r (U r ++ [u])) = toB S n al ty V U + u.2.2.length := sorry
theorem TD.mv {pM' : Nat} (x : TD X F S N m s μ h al ε uM pM) (f : ∀ a, 7863 ≤ a → a ≤ 7878 → a ≠ 7868 → ∀ i, μ' a i = μ a i) (fs : ∀ a, 7762 ≤ a → a ≤ 7861 → ∀ i, μ' a i = μ a i) (fp : ∀ i, 9000 * m ≤ i → i < 9000 * m + pM → μ' 7879 i = μ 7879 i) (hp : μ' 7868 m = pM') (h1 : pM ≤ pM') (h2 : pM' ≤ 9000) : TD X F S N m s μ' h al ε uM pM' := sorry
theorem frYr.td {pM' : Nat} (x : TD X F S N m s μ h al ε uM pM) (f : frYr μ μ') (hr : r < h.1) (ha : al r = true) (e : pM' = pM) : TD X F S N m s μ' h al ε uM pM' := sorry
end Td
end
section
section Te
variable {μ μ' μ'' : ab_M} {d : Nat} {S : SF} {N : NF} {m s n : Nat} {h h' : He} {al al' : Nat → Bool} {ε ε' : Nat → Nat} {uM pM r j e p q lv lv' : Nat} {X : RsvT} {F : Nat → Prop} {D : Nat → Nat} {v k : Int} {l : List Int} {T : Nat → Int}
def frTd (lv : Nat) (μ μ' : ab_M) : Prop := ∀ a i, ¬ mine 12 a i → (7892 ≤ a → a ≤ 7898 → i < lv) → (a ≠ 7756 ∨ i ≠ 17 ∧ i ≠ 18 ∧ (i < 180 ∨ 192 < i)) → μ' a i = μ a i
theorem frTd.refl : frTd lv μ μ := sorry
theorem frTd.trans (f : frTd lv μ μ') (g : frTd lv μ' μ'') : frTd lv μ μ'' := sorry
theorem frTd.le (f : frTd lv μ μ') (l : lv' ≤ lv) : frTd lv' μ μ' := sorry
theorem frH.td (f : frH 12 μ μ') : frTd lv μ μ' := sorry
theorem frYr.fr (f : frYr μ μ') : frTd lv μ μ' := sorry
def FtTd (run : ab_R) (μ : ab_M) (f : Flt) : Prop := R0 run (fun v μ' => v = 0 ∧ μ' 7756 17 = f.1 ∧ μ' 7756 18 = f.2 ∧ frTd 0 μ μ')
theorem FtTd.to {run : ab_R} {f : Flt} (g : FtTd run μ' f) (q : frTd lv μ μ') : FtTd run μ f := sorry
theorem FtY.td {run : ab_R} {f : Flt} (g : FtY run μ f) : FtTd run μ f := sorry
def TSe (X : RsvT) (F : Nat → Prop) (S : SF) (N : NF) (T : Nat → Int) (n s : Nat) (μ : ab_M) (p : Nat) (h : He) (al : Nat → Bool) (ε : Nat → Nat) (uM pM : Nat) : Prop := (tIn μ n T ∧ μ 7756 180 = p ∧ μ 7756 17 = 0) ∧ TD X F S N 12 s μ h al ε uM pM
theorem tIn.fr (c : tIn μ n T) (f : frTd lv μ μ') : tIn μ' n T := sorry
theorem tIn.by (c : tIn μ n T) {u : Nat} (h : q + u ≤ n) : tBy μ 7891 q (slc T q u) := sorry
theorem tw_bf74 {u : Nat} (hq : q + u ≤ n) (hp : pM + u ≤ 9000) : ∀ (w i : Nat) (μ : ab_M), i + w = u → tIn μ n T → μ 7756 180 = q → μ 7868 12 = ((pM + i : Nat) : Int) → R0 (ab_run wt (d + 2) 15 74 [(2, 7756), (0, 12), (3, 0), (3, 0), (0, u), (0, i)] [] μ) (fun v μ' => v = 1 ∧ μ' 7756 180 = ((q + u : Nat) : Int) ∧ μ' 7868 12 = ((pM + u : Nat) : Int) ∧ (∀ y, i ≤ y → y < u → μ' 7879 (9000 * 12 + pM + y) = T (q + y)) ∧ ∀ a y, (a ≠ 7879 ∨ y < 9000 * 12 + pM + i ∨ 9000 * 12 + pM + u ≤ y) → (a ≠ 7868 ∨ y ≠ 12) → (a ≠ 7756 ∨ y ≠ 180) → μ' a y = μ a y) := sorry
theorem tw_bytesFor (x : TSe X F S N T n s μ q h al ε uM pM) (hr : r < h.1) (ha : al r = true) (he : e ≤ n) (hq : q ≤ e) (z9 : k = 9 ∨ k = 10) :
    (∀ g, scR k T e q = .inl g → FtTd (ab_run wt (d + 4) 15 0 [(2, 7756), (0, 12), (0, k), (0, e), (3, 0), (3, 0)] [] μ) μ g) ∧ ∀ v l q', scR k T e q = .inr (v, l, q') → pM + l.length ≤ 8800 → ∃ μ', (ab_run wt (d + 4) 15 0 [(2, 7756), (0, 12), (0, k), (0, e), (3, 0), (3, 0)] [] μ) = some ((0, 1), μ') ∧ v = 0 ∧ μ' 7756 191 = pM ∧ μ' 7756 192 = l.length ∧ tBy μ' 7879 (9000 * 12 + pM) l ∧ TSe X F S N T n s μ' q' h al ε uM (pM + l.length) ∧ frTd 64 μ μ' ∧ (∀ a i, (a ≠ 7756 ∨ i ≠ 180 ∧ i ≠ 181 ∧ i ≠ 191 ∧ i ≠ 192) → a ≠ 7879 → a ≠ 7868 → μ' a i = μ a i) := sorry
end Te
end
section
section Te
variable {μ μ' μ'' : ab_M} {d : Nat} {S : SF} {N : NF} {m s n : Nat} {h h' : He} {al al' : Nat → Bool} {ε ε' : Nat → Nat} {uM pM r j e p q lv lv' : Nat} {X : RsvT} {F : Nat → Prop} {D : Nat → Nat} {v k : Int} {l : List Int} {T : Nat → Int}
theorem tw_un83 {rr ee : Int} {q' : Nat} (hq' : q' ≤ n) : ∀ (w i P : Nat) (μ : ab_M), i + w = q' → P + w ≤ 9000 → tIn μ n T → μ 7756 180 = q' → μ 7868 12 = P → ∃ μ', (ab_run wt (d + 2) 314 83 [(2, 7756), (0, rr), (3, 0), (3, 0), (3, 0), (3, 0), (3, 0), (3, 0), (0, 12), (0, ee), (0, i)] [] μ) = (ab_run wt (d + 2) 314 83 [(2, 7756), (0, rr), (3, 0), (3, 0), (3, 0), (3, 0), (3, 0), (3, 0), (0, 12), (0, ee), (0, (q'))] [] μ') ∧ μ' 7868 12 = ((P + w : Nat) : Int) ∧ (∀ y, y < w → μ' 7879 (9000 * 12 + P + y) = T (i + y)) ∧ ∀ a y, (a ≠ 7879 ∨ y < 9000 * 12 + P ∨ 9000 * 12 + P + w ≤ y) → (a ≠ 7868 ∨ y ≠ 12) → μ' a y = μ a y := sorry
theorem tw_un140 {ee : Int} {la : Nat} : ∀ (cs : List Nat) (x : Int), tSg μ x (cs ++ [la]) (-2) → (∀ i ∈ cs ++ [la], i < 73600) → (ab_run wt (d + 1) 314 140 [(2, 7756), (3, 0), (3, 0), (3, 0), (3, 0), (3, 0), (3, 0), (3, 0), (0, 12), (0, ee), (0, x)] [] μ) = (ab_run wt (d + 1) 314 171 [(2, 7756), (3, 0), (3, 0), (3, 0), (3, 0), (3, 0), (3, 0), (3, 0), (0, 12), (0, ee), (3, 0)] [] (ab_up μ 7870 la ee)) := sorry
theorem tw_unk {w num : Int} {ka : Int} (x : TSe X F S N T n s μ q h al ε uM pM) (hr : r < h.1) (ha : al r = true) (he : e ≤ n) (hq : q ≤ e) :
    (∀ g, psV w T e q = .inl g → FtTd (ab_run wt (d + 5) 314 0 [(2, 7756), (0, (ε r)), (1, num), (3, 0), (0, w), (0, ka), (0, e), (3, 0), (3, 0), (3, 0), (3, 0)] [] μ) μ g) ∧ ∀ q', psV w T e q = .inr q' → uM < 4600 → pM + (q' - q) ≤ 8800 → ∃ μ', (ab_run wt (d + 5) 314 0 [(2, 7756), (0, (ε r)), (1, num), (3, 0), (0, w), (0, ka), (0, e), (3, 0), (3, 0), (3, 0), (3, 0)] [] μ) = some ((0, 1), μ') ∧ TSe X F S N T n s μ' q' (hUnk h r (num, w, slc T q (q' - q))) al ε (uM + 1) (pM + (q' - q)) ∧ frTd 64 μ μ' ∧ (∀ i, i ≠ 180 → i ≠ 181 → μ' 7756 i = μ 7756 i) := sorry
end Te
end
section
section Te
variable {μ μ' μ'' : ab_M} {d : Nat} {S : SF} {N : NF} {m s n : Nat} {h h' : He} {al al' : Nat → Bool} {ε ε' : Nat → Nat} {uM pM r j e p q lv lv' : Nat} {X : RsvT} {F : Nat → Prop} {D : Nat → Nat} {v k : Int} {l : List Int} {T : Nat → Int} {ty : Nat → Nat} {V : Nat → Nat → List It} {U : Nat → List Un} {W : Nat → List We} {c uc : Nat → List Nat} {own : Nat → Nat}
theorem tH.fr0 {P : Nat → Prop} (h : tH S μ m s n al ty V U ε W c uc own uM pM) (he : 4600 * m < e) (ne : ∀ r, r < n → al r = true → e ∉ c r ∧ e ∉ uc r) (hP : ∀ a, P a → 7869 ≤ a ∧ a ≤ 7878) (hε : ∀ r, r < n → al r = true → ε r = e → ¬ P 7869 ∧ ¬ P 7871 ∧ ¬ P 7872) (f : ∀ a i, 7863 ≤ a → a ≤ 7879 → a ≠ 7865 → a ≠ 7866 → (i ≠ e ∨ ¬ P a) → μ' a i = μ a i) : tH S μ' m s n al ty V U ε W c uc own uM pM := sorry
theorem tH.ne {f : Int} (h : tH S μ m s n al ty V U ε W c uc own uM pM) (hu : uM < 4600) (g : ∀ a i, 7863 ≤ a → a ≤ 7879 → (a < 7869 ∨ 7878 < a ∨ i ≠ 4600 * m + uM) → (a ≠ 7867 ∨ i ≠ m) → μ' a i = μ a i) (gu : μ' 7867 m = μ 7867 m + 1) : tH S μ' m s n al ty V U ε W c uc own (uM + 1) pM := sorry
def pbA (S : SF) (t j : Nat) (h : He) (al : Nat → Bool) : Nat → Bool := if S 12 t j = 12 then upL al h.1 true else al
def pbE (S : SF) (t j : Nat) (h : He) (ε : Nat → Nat) (e : Nat) : Nat → Nat := if S 12 t j = 12 then upL ε h.1 e else ε
def pbF (S : SF) (t j : Nat) (x : It) (F : Nat → Prop) : Nat → Prop := fun y => F y ∨ (S 12 t j = 12 ∧ y = x.2.2.2.2)
theorem TD.pb (x : TD X F S N m s μ h al ε uM pM) (i : hIn S h D) (hr : r < h.1) (ha : al r = true) (hj : j < fCt S (h.2.1 r)) (hu : uM < 4600) (g : ∀ a i, 7762 ≤ a → a ≤ 7879 → (a < 7869 ∨ 7878 < a ∨ i ≠ 4600 * m + uM) → (a ≠ 7867 ∨ i ≠ m) → μ' a i = μ a i) (gu : μ' 7867 m = μ 7867 m + 1)
    (g1 : μ' 7869 (4600 * m + uM) = fX s (h.2.1 r) j) (g2 : μ' 7871 (4600 * m + uM) = -2 ∧ μ' 7872 (4600 * m + uM) = -2) (g3 : μ' 7873 (4600 * m + uM) = (sPb S (h.2.1 r) j h).2.2.2.1 ∧ μ' 7874 (4600 * m + uM) = 0 ∧ μ' 7875 (4600 * m + uM) = 0 ∧ μ' 7876 (4600 * m + uM) = 0 ∧ μ' 7877 (4600 * m + uM) = 0 ∧ μ' 7878 (4600 * m + uM) = 0) :
    TD (upL X (4600 * m + uM) (some (h.2.1 r, j, (sPb S (h.2.1 r) j h).2))) (pbF S (h.2.1 r) j (sPb S (h.2.1 r) j h).2 F) S N m s μ' (sPb S (h.2.1 r) j h).1 (pbA S (h.2.1 r) j h al) (pbE S (h.2.1 r) j h ε (4600 * m + uM)) (uM + 1) pM := sorry
end Te
end
section
section Te
variable {μ μ' μ'' : ab_M} {d : Nat} {S : SF} {N : NF} {m s n : Nat} {h h' : He} {al al' : Nat → Bool} {ε ε' : Nat → Nat} {uM pM r j e p q lv lv' t : Nat} {X : RsvT} {F : Nat → Prop} {D : Nat → Nat} {v k : Int} {l : List Int} {T : Nat → Int} {y y' : It}
theorem TD.fil (x : TD (upL X e (some (t, j, y))) F S N m s μ h al ε uM pM) (f : ∀ a i, 7762 ≤ a → a ≤ 7879 → (i ≠ e ∨ a < 7873 ∨ 7878 < a) → μ' a i = μ a i) (en : tEn S μ' m s pM ε t e (j, y')) (hy : y'.2.2.2.2 = y.2.2.2.2) : TD (upL X e (some (t, j, y'))) F S N m s μ' h al ε uM pM := sorry
theorem TD.pnr {t' : Nat} (x : TD (upL X e (some (h.2.1 r, j, y))) (pbF S (h.2.1 r) j y F) S N m s μ h al ε uM pM) (i : hIn S h D) (hr : r < h.1) (hj : j < fCt S (h.2.1 r)) (z12 : S 12 (h.2.1 r) j = 12) (h13 : S 13 (h.2.1 r) j = t') (tO : (t' : Int) < S 0 0 0 ∧ S 2 t' 0 = 1) (yn : y.2.2.1 = 0 ∧ y.2.2.2.1 = []) (yr : r < y.2.2.2.2) :
    R3 (ab_run wt (d + 2) 313 0 [(2, 7756), (0, e), (3, 0), (3, 0), (3, 0), (3, 0), (3, 0)] [] (ab_up μ 7878 e 0)) (fun μ1 => ucF m (ab_up μ 7878 e 0) μ1 ∧ ∀ μ2, (∀ a i, 7762 ≤ a → a ≤ 7879 → (i ≠ e ∨ a ≠ 7878 ∧ a ≠ 7871 ∧ a ≠ 7872) → μ2 a i = μ1 a i) → μ2 7878 e = μ 7878 e → μ2 7871 e = -2 → μ2 7872 e = -2 → ∃ al', TD (upL X e (some (h.2.1 r, j, y.1, y.2.1, 0, [], h.1))) (pbF S (h.2.1 r) j (y.1, y.2.1, 0, [], h.1) F) S N m s μ2 (hOrp h t') al' (upL ε h.1 e) uM pM ∧ al' h.1 = true ∧ tdK r h al al' ε (upL ε h.1 e)) := sorry
end Te
end
section
section Te
variable {μ μ' μ'' : ab_M} {d : Nat} {S : SF} {N : NF} {m s n : Nat} {h h' : He} {al al' : Nat → Bool} {ε ε' : Nat → Nat} {uM pM r j e p q lv lv' t : Nat} {X : RsvT} {F : Nat → Prop} {D : Nat → Nat} {v k : Int} {l : List Int} {T : Nat → Int} {y y' : It} {W : Nat → List We} {c uc : Nat → List Nat} {own : Nat → Nat} {A B : List It}
theorem tH.eεr (th : tH S μ m s h.1 al h.2.1 h.2.2.1 h.2.2.2 ε W c uc own uM pM) (ts : TS μ s S N) (hr : r < h.1) (ha : al r = true) (he : 4600 * m < e) (tt : (t : Int) < S 0 0 0 ∧ S 2 t 0 = 1) (en : tEn S μ m s pM ε t e (j, y)) (rc : fSo (S 12 t j) = 2 → y.2.2.2.2 < h.1 ∧ al y.2.2.2.2 = true ∧ r < y.2.2.2.2) : e ≠ ε r := sorry
theorem tw_lf175 {c1 c2 : List Nat} {W1 W2 : List We} (th : tH S μ 12 s h.1 al h.2.1 h.2.2.1 h.2.2.2 ε W c uc own uM pM) (ro : rsvT (upL X e (some (h.2.1 r, j, y))) S μ 12 s h.1 al ε c uc uM pM) (x1 : TS μ s S N) (x3 : TC S μ 12 h.1 al h.2.1 h.2.2.1 h.2.2.2) (x8 : noOr S h.1 al h.2.1 h.2.2.1 (pbF S (h.2.1 r) j y F)) (Xe : X e = none) (hr : r < h.1) (ha : al r = true) (hj : j < fCt S (h.2.1 r)) (m3 : S 11 (h.2.1 r) j = 3) (yr : S 12 (h.2.1 r) j = 12 → r < y.2.2.2.2) (kp : tKp S (h.2.1 r) j (c r) c1 c2 (W r) W1 W2 A B) (hV : h.2.2.1 r j = A ++ B) :
    R0 (ab_run wt (d + 3) 144 175 [(2, 7756), (3, 0), (0, 12), (0, e), (3, 0), (0, (ε r)), (0, (lsI c1))] [] μ) (fun v μ' => v = 1 ∧ TD X F S N 12 s μ' (h.1, h.2.1, upV h.2.2.1 r j (A ++ y :: B), h.2.2.2) al ε uM pM ∧ frH 12 μ μ') := sorry
theorem tw_lf94 (x : TD (upL X e (some (h.2.1 r, j, y))) (pbF S (h.2.1 r) j y F) S N 12 s μ h al ε uM pM) (Xe : X e = none) (i : hIn S h D) (hr : r < h.1) (ha : al r = true) (hj : j < fCt S (h.2.1 r)) (m3 : S 11 (h.2.1 r) j = 3) (yk : byt y.2.1 ∧ lng y.1) (yr : S 12 (h.2.1 r) j = 12 → r < y.2.2.2.2) (hlv : lv < 64) (fr : μ 7897 lv = ε r) :
    R0 (ab_run wt (d + 6) 144 94 [(2, 7756), (0, lv), (0, 12), (0, e), (0, (fX s (h.2.1 r) j)), (3, 0), (3, 0)] [] μ) (fun v μ' => v = 1 ∧ ∃ al', TD X F S N 12 s μ' (hPair S h r j y) al' ε uM pM ∧ tdK r h al al' ε ε ∧ frH 12 μ μ') := sorry
end Te
end
section
section Te
variable {μ μ' μ'' : ab_M} {d : Nat} {S : SF} {N : NF} {m s n : Nat} {h h' : He} {al al' : Nat → Bool} {ε ε' : Nat → Nat} {uM pM r j e p q lv lv' t : Nat} {X : RsvT} {F : Nat → Prop} {D : Nat → Nat} {v k : Int} {l : List Int} {T : Nat → Int} {y y' : It} {σ σ' : Sg}
def TSd (X : RsvT) (F : Nat → Prop) (S : SF) (N : NF) (T : Nat → Int) (n s : Nat) (μ : ab_M) (p : Nat) (σ : Sg) (al : Nat → Bool) (ε : Nat → Nat) : Prop := (σ.2.1 ≤ 4400 ∧ σ.2.2 ≤ 8800) ∧ ∃ uM pM, TSe X F S N T n s μ p σ.1 al ε uM pM ∧ uM ≤ 1 + σ.2.1 ∧ pM ≤ σ.2.2
theorem TSd.in (x : TSd X F S N T n s μ p σ al ε) : tIn μ n T ∧ μ 7756 180 = p ∧ μ 7756 17 = 0 ∧ TS μ s S N := sorry
theorem TSd.w {a1 b1 : Nat} (x : TSd X F S N T n s μ p σ al ε) (ha : a1 ≤ 4400) (hb : b1 ≤ 8800) (h1 : σ.2.1 ≤ a1) (h2 : σ.2.2 ≤ b1) : TSd X F S N T n s μ p (σ.1, a1, b1) al ε := sorry
theorem TSd.mv (x : TSd X F S N T n s μ p σ al ε) (hr : r < σ.1.1) (ha : al r = true) (f : ∀ a i, (a < 7892 ∨ 7898 < a) → (a ≠ 7756 ∨ (i < 180 ∨ 192 < i) ∧ i ≠ 18) → μ' a i = μ a i) (hp : μ' 7756 180 = q) : TSd X F S N T n s μ' q σ al ε := sorry
theorem tw_enterFrame {R : Nat} {w e1 en k1 f1 r1 : Int} (hl : μ 7756 189 = lv) (l64 : lv < 64) (hR : μ 7756 190 = R) (R100 : R < 100) :
    R3 (ab_run wt (d + 1) 45 0 [(2, 7756), (0, w), (0, e1), (0, en), (0, k1), (0, f1), (0, r1)] [] μ) (fun μ' => μ' 7756 189 = ((lv + 1 : Nat) : Int) ∧ μ' 7756 190 = R + (if w = 0 then 1 else 0) ∧ (μ' 7892 lv = w ∧ μ' 7893 lv = e1 ∧ μ' 7894 lv = en ∧ μ' 7895 lv = k1 ∧ μ' 7896 lv = f1 ∧ μ' 7897 lv = r1 ∧ μ' 7898 lv = 0) ∧ ∀ a i, (a < 7892 ∨ 7898 < a ∨ i ≠ lv) → (a ≠ 7756 ∨ i ≠ 189 ∧ i ≠ 190) → μ' a i = μ a i) := sorry
theorem tw_rkT (x : TSd X F S N T n s μ p σ al ε) (hr : r < σ.1.1) (ha : al r = true) (l64 : lv < 64) (fe : μ 7894 lv = e) (he : e ≤ n) (hp : p ≤ e) :
    (∀ g, rkY T e p = .inl g → FtTd (ab_run wt (d + 8) 252 0 [(2, 7756), (0, lv), (3, 0), (3, 0), (3, 0), (3, 0), (3, 0), (3, 0), (3, 0), (3, 0), (3, 0), (3, 0), (3, 0), (3, 0), (3, 0), (3, 0)] [] μ) μ g) ∧ ∀ m w q, rkY T e p = .inr (m, w, q) → ∃ μ1, TSd X F S N T n s μ1 q σ al ε ∧ (∀ a i, (a ≠ 7756 ∨ i ≠ 180 ∧ i ≠ 181) → μ1 a i = μ a i) ∧ (ab_run wt (d + 8) 252 0 [(2, 7756), (0, lv), (3, 0), (3, 0), (3, 0), (3, 0), (3, 0), (3, 0), (3, 0), (3, 0), (3, 0), (3, 0), (3, 0), (3, 0), (3, 0), (3, 0)] [] μ) = (if μ1 7892 lv = 1 then ab_cal (ab_run wt (d + 7) 258 0 [(2, 7756), (0, lv), (1, m), (3, 0), (0, w), (0, p), (3, 0), (3, 0), (3, 0), (3, 0), (3, 0), (3, 0)] [] μ1) 0 (fun r7 μ7 => some ((4, r7), μ7)) (fun r7 μ7 => if r7 = 0 ∨ r7 = 1 then some ((0, r7), μ7) else none) else ab_cal (ab_run wt (d + 7) 270 0 [(2, 7756), (0, (μ1 7893 lv))] [] μ1) 0 (fun r8 μ8 => some ((4, r8), μ8)) (fun r8 μ8 => ab_cal (ab_run wt (d + 7) 57 0 [(2, 7756), (0, r8), (1, m), (3, 0), (3, 0)] [] μ8) 0 (fun r9 μ9 => some ((4, r9), μ9)) (fun r9 μ9 => if r9 < 0 then (ab_run wt (d + 8) 252 169 [(2, 7756), (3, 0), (0, p), (0, e), (1, m), (3, 0), (0, w), (0, (μ1 7893 lv)), (3, 0), (0, r9), (3, 0), (3, 0), (3, 0), (3, 0), (3, 0), (3, 0)] [] μ9) else if 0 ≤ r9 ∧ r9 < 3600 then (if μ9 7779 r9.toNat = 3 then (if (w : Int) = 2 then ab_cal (ab_run wt (d + 7) 8 0 [(2, 7756), (0, (μ1 7893 lv)), (0, r9), (0, p), (0, e), (3, 0), (3, 0)] [] μ9) 0 (fun r10 μ10 => some ((4, r10), μ10)) (fun r10 μ10 => if r10 = 0 ∨ r10 = 1 then some ((0, r10), μ10) else none) else (ab_run wt (d + 8) 252 169 [(2, 7756), (3, 0), (0, p), (0, e), (1, m), (3, 0), (0, w), (0, (μ1 7893 lv)), (3, 0), (0, r9), (3, 0), (3, 0), (3, 0), (3, 0), (3, 0), (3, 0)] [] μ9)) else (ab_run wt (d + 8) 252 169 [(2, 7756), (3, 0), (0, p), (0, e), (1, m), (3, 0), (0, w), (0, (μ1 7893 lv)), (3, 0), (0, r9), (3, 0), (3, 0), (3, 0), (3, 0), (3, 0), (3, 0)] [] μ9)) else none))) := sorry
theorem tw_rkR {m w : Nat} (x : TSd X F S N T n s μ q σ al ε) (hr : r < σ.1.1) (ha : al r = true) (run : ab_R) (hrun : run = ab_cal (ab_run wt (d + 7) 270 0 [(2, 7756), (0, (ε r))] [] μ) 0 (fun r8 μ8 => some ((4, r8), μ8)) (fun r8 μ8 => ab_cal (ab_run wt (d + 7) 57 0 [(2, 7756), (0, r8), (1, m), (3, 0), (3, 0)] [] μ8) 0 (fun r9 μ9 => some ((4, r9), μ9)) (fun r9 μ9 => if r9 < 0 then (ab_run wt (d + 8) 252 169 [(2, 7756), (3, 0), (0, p), (0, e), (1, m), (3, 0), (0, w), (0, (ε r)), (3, 0), (0, r9), (3, 0), (3, 0), (3, 0), (3, 0), (3, 0), (3, 0)] [] μ9) else if 0 ≤ r9 ∧ r9 < 3600 then (if μ9 7779 r9.toNat = 3 then (if (w : Int) = 2 then ab_cal (ab_run wt (d + 7) 8 0 [(2, 7756), (0, (ε r)), (0, r9), (0, p), (0, e), (3, 0), (3, 0)] [] μ9) 0 (fun r10 μ10 => some ((4, r10), μ10)) (fun r10 μ10 => if r10 = 0 ∨ r10 = 1 then some ((0, r10), μ10) else none) else (ab_run wt (d + 8) 252 169 [(2, 7756), (3, 0), (0, p), (0, e), (1, m), (3, 0), (0, w), (0, (ε r)), (3, 0), (0, r9), (3, 0), (3, 0), (3, 0), (3, 0), (3, 0), (3, 0)] [] μ9)) else (ab_run wt (d + 8) 252 169 [(2, 7756), (3, 0), (0, p), (0, e), (1, m), (3, 0), (0, w), (0, (ε r)), (3, 0), (0, r9), (3, 0), (3, 0), (3, 0), (3, 0), (3, 0), (3, 0)] [] μ9)) else none))) :
    (fNo (S 10 (σ.1.2.1 r)) m (fCt S (σ.1.2.1 r)) 0 < 0 → run = ab_cal (ab_run wt (d + 7) 314 0 [(2, 7756), (0, (ε r)), (1, m), (3, 0), (0, w), (0, p), (0, e), (3, 0), (3, 0), (3, 0), (3, 0)] [] μ) 0 (fun r1 μ1 => some ((4, r1), μ1)) (fun r1 μ1 => if r1 = 0 ∨ r1 = 1 then some ((0, r1), μ1) else none)) ∧
    ∀ j : Nat, fNo (S 10 (σ.1.2.1 r)) m (fCt S (σ.1.2.1 r)) 0 = j → j < fCt S (σ.1.2.1 r) → run = if ¬ (sPac S (σ.1.2.1 r) j ∧ (w : Int) = 2) ∧ (w : Int) ≠ wrF S (σ.1.2.1 r) j then ab_cal (ab_run wt (d + 7) 314 0 [(2, 7756), (0, (ε r)), (1, m), (3, 0), (0, w), (0, p), (0, e), (3, 0), (3, 0), (3, 0), (3, 0)] [] μ) 0 (fun r1 μ1 => some ((4, r1), μ1)) (fun r1 μ1 => if r1 = 0 ∨ r1 = 1 then some ((0, r1), μ1) else none) else if S 11 (σ.1.2.1 r) j = 3 then ab_cal (ab_run wt (d + 7) 8 0 [(2, 7756), (0, (ε r)), (0, (fX s (σ.1.2.1 r) j)), (0, p), (0, e), (3, 0), (3, 0)] [] μ) 0 (fun r10 μ10 => some ((4, r10), μ10)) (fun r10 μ10 => if r10 = 0 ∨ r10 = 1 then some ((0, r10), μ10) else none) else (ab_run wt (d + 8) 252 258 [(2, 7756), (3, 0), (0, p), (0, e), (3, 0), (3, 0), (3, 0), (0, (ε r)), (3, 0), (0, (fX s (σ.1.2.1 r) j)), (3, 0), (0, ((if sPac S (σ.1.2.1 r) j ∧ (w : Int) = 2 then 1 else 0))), (3, 0), (3, 0), (3, 0), (3, 0)] [] μ) := sorry
end Te
end
section
section Te
variable {μ μ' μ'' : ab_M} {d : Nat} {S : SF} {N : NF} {m s n : Nat} {h h' : He} {al al' : Nat → Bool} {ε ε' : Nat → Nat} {uM pM r j e p q lv lv' t : Nat} {X : RsvT} {F : Nat → Prop} {D : Nat → Nat} {v k : Int} {l : List Int} {T : Nat → Int} {y y' : It} {σ σ' : Sg}
def tOk (X : RsvT) (F : Nat → Prop) (S : SF) (N : NF) (T : Nat → Int) (n s : Nat) (run : ab_R) (μ : ab_M) (r : Nat) (h : He) (al : Nat → Bool) (ε : Nat → Nat) : Flt ⊕ (Nat × Sg) → Prop
  | .inl f => FtTd run μ f
  | .inr (p, σ') => ∃ μ' al', run = some ((0, 1), μ') ∧ TSd X F S N T n s μ' p σ' al' ε ∧ tdK r h al al' ε ε ∧ frTd 64 μ μ' ∧ μ' 7756 189 = μ 7756 189 ∧ μ' 7756 190 = μ 7756 190
theorem tw_rk531 {fi : Nat} {q' : Nat} {a1 b1 : Nat} (x : TSe X F S N T n s μ q' h al ε uM pM) (i : hIn S h D) (hr : r < h.1) (ha : al r = true) (hj : j < fCt S (h.2.1 r)) (m3 : S 11 (h.2.1 r) j ≠ 3) (h12 : S 12 (h.2.1 r) j ≠ 12) (hl : fi + l.length ≤ pM) (hb : tBy μ 7879 (9000 * 12 + fi) l) (gf : μ 7756 191 = fi) (gs : μ 7756 192 = l.length) (u1 : uM ≤ a1) (a4 : a1 ≤ 4400) (p1 : pM ≤ b1) (b8 : b1 ≤ 8800) :
    ∃ μ' al', (ab_run wt (d + 8) 252 531 [(2, 7756), (3, 0), (3, 0), (3, 0), (3, 0), (3, 0), (3, 0), (0, (ε r)), (3, 0), (0, (fX s (h.2.1 r) j)), (3, 0), (3, 0), (3, 0), (3, 0), (3, 0), (3, 0)] [(1, v)] μ) = some ((0, 1), μ') ∧ TSd X F S N T n s μ' q' (hSet S N h r j (0, []) v l, a1, b1) al' ε ∧ tdK r h al al' ε ε ∧ frH 12 μ μ' := sorry
theorem tw_sca {R : Flt ⊕ (Nat × Sg)} (x : TSd X F S N T n s μ q σ al ε) (i : hIn S σ.1 D) (hr : r < σ.1.1) (ha : al r = true) (hj : j < fCt S (σ.1.2.1 r)) (m3 : S 11 (σ.1.2.1 r) j ≠ 3) (h12 : S 12 (σ.1.2.1 r) j ≠ 12) (he : e ≤ n) (hq : q ≤ e) (z4 : ¬ 4400 < σ.2.1 + 2) (eR : R = match scR (S 12 (σ.1.2.1 r) j) T e q with
      | .inl g => .inl g
      | .inr (v, l, q') => if 8800 < σ.2.2 + l.length then .inl ovr else .inr (q', (hSet S N σ.1 r j (0, []) v l, σ.2.1 + 2, σ.2.2 + l.length))) (no : R ≠ .inl ovr) :
    tOk X F S N T n s (ab_run wt (d + 8) 252 258 [(2, 7756), (3, 0), (0, p), (0, e), (3, 0), (3, 0), (3, 0), (0, (ε r)), (3, 0), (0, (fX s (σ.1.2.1 r) j)), (3, 0), (0, 0), (3, 0), (3, 0), (3, 0), (3, 0)] [] μ) μ r σ.1 al ε R := sorry
theorem tw_pkL {last : Nat} (ok : scOK S N) (hl : last ≤ n) : ∀ (f q : Nat) (σ : Sg) (μ : ab_M) (al : Nat → Bool), TSd X F S N T n s μ q σ al ε → hIn S σ.1 D → r < σ.1.1 → al r = true → j < fCt S (σ.1.2.1 r) → sPac S (σ.1.2.1 r) j → q ≤ last → sPk S N T r j last f q σ ≠ .inl ovr →
    (∀ g, sPk S N T r j last f q σ = .inl g → FtTd (ab_run wt (d + 8) 252 289 [(2, 7756), (3, 0), (3, 0), (3, 0), (3, 0), (3, 0), (3, 0), (0, (ε r)), (3, 0), (0, (fX s (σ.1.2.1 r) j)), (3, 0), (3, 0), (3, 0), (0, last), (3, 0), (3, 0)] [] μ) μ g) ∧ ∀ σ', sPk S N T r j last f q σ = .inr σ' → ∃ μ', (ab_run wt (d + 8) 252 289 [(2, 7756), (3, 0), (3, 0), (3, 0), (3, 0), (3, 0), (3, 0), (0, (ε r)), (3, 0), (0, (fX s (σ.1.2.1 r) j)), (3, 0), (3, 0), (3, 0), (0, last), (3, 0), (3, 0)] [] μ) = some ((0, 1), μ') ∧ TSd X F S N T n s μ' last σ' al ε ∧ frTd 64 μ μ' ∧ μ' 7756 189 = μ 7756 189 ∧ μ' 7756 190 = μ 7756 190 := sorry
end Te
end
section
section Te
variable {μ μ' μ'' : ab_M} {d : Nat} {S : SF} {N : NF} {s n : Nat} {h h' : He} {al al' : Nat → Bool} {ε ε' : Nat → Nat} {uM pM r j e p q lv lv' t e0 : Nat} {X : RsvT} {F : Nat → Prop} {D : Nat → Nat} {v : Int} {l : List Int} {T : Nat → Int} {x x' : It} {σ σ' : Sg}
def pFr (μ : ab_M) (lv e0 e s t j er dp : Nat) : Prop := (μ 7892 lv = 1 ∧ μ 7893 lv = e0 ∧ μ 7894 lv = e ∧ μ 7896 lv = fX s t j ∧ μ 7897 lv = er) ∧ (μ 7898 lv ≠ 0 → dp ≠ 12)
theorem tw_rpS {m w : Nat} {k : Int} (ts : TSd (upL X e0 (some (t, j, x))) F S N T n s μ q σ al ε) (hr : r < σ.1.1) (ha : al r = true) (tt : (t : Int) < S 0 0 0 ∧ S 2 t 0 = 1) (hj : j < fCt S t) (m3 : S 11 t j = 3) (l64 : lv < 64) (fe : μ 7893 lv = e0) (fn : μ 7894 lv = e) (ff : μ 7896 lv = fX s t j) (he : e ≤ n) (hq : q ≤ e) (m12 : m = 1 ∨ m = 2) (hk : k = if m = 1 then S 14 t j else S 12 t j) (hw : (w : Int) = kWire k) (k12 : k ≠ 12) (z4 : ¬ 4400 < σ.2.1 + 2) :
    (∀ g, scR k T e q = .inl g → FtTd (ab_run wt (d + 7) 258 0 [(2, 7756), (0, lv), (1, m), (3, 0), (0, w), (0, p), (3, 0), (3, 0), (3, 0), (3, 0), (3, 0), (3, 0)] [] μ) μ g) ∧ ∀ v l q', scR k T e q = .inr (v, l, q') → ¬ 8800 < σ.2.2 + l.length → ∃ μ', (ab_run wt (d + 7) 258 0 [(2, 7756), (0, lv), (1, m), (3, 0), (0, w), (0, p), (3, 0), (3, 0), (3, 0), (3, 0), (3, 0), (3, 0)] [] μ) = some ((0, 1), μ') ∧ TSd (upL X e0 (some (t, j, if m = 1 then (v, l, x.2.2) else (x.1, x.2.1, v, l, x.2.2.2.2)))) F S N T n s μ' q' (σ.1, σ.2.1 + 2, σ.2.2 + l.length) al ε ∧ frTd 64 μ μ' ∧ μ' 7756 189 = μ 7756 189 ∧ μ' 7756 190 = μ 7756 190 := sorry
theorem tw_rpP {m w : Nat} (ts : TSd X F S N T n s μ q σ al ε) (hr : r < σ.1.1) (ha : al r = true) (tt : (t : Int) < S 0 0 0 ∧ S 2 t 0 = 1) (hj : j < fCt S t) (m3 : S 11 t j = 3) (l64 : lv < 64) (fe : μ 7893 lv = e0) (fn : μ 7894 lv = e) (ff : μ 7896 lv = fX s t j) (he : e ≤ n) (hq : q ≤ e) (m1 : 1 ≤ m) (z1 : ¬ (m = 1 ∧ (w : Int) = kWire (S 14 t j))) (z2 : ¬ (m = 2 ∧ (w : Int) = kWire (S 12 t j))) :
    (∀ g, psV (w : Int) T e q = .inl g → FtTd (ab_run wt (d + 7) 258 0 [(2, 7756), (0, lv), (1, m), (3, 0), (0, w), (0, p), (3, 0), (3, 0), (3, 0), (3, 0), (3, 0), (3, 0)] [] μ) μ g) ∧ ∀ q', psV (w : Int) T e q = .inr q' → ∃ μ', (ab_run wt (d + 7) 258 0 [(2, 7756), (0, lv), (1, m), (3, 0), (0, w), (0, p), (3, 0), (3, 0), (3, 0), (3, 0), (3, 0), (3, 0)] [] μ) = some ((0, 1), μ') ∧ TSd X F S N T n s μ' q' σ al ε ∧ frTd 64 μ μ' ∧ μ' 7756 189 = μ 7756 189 ∧ μ' 7756 190 = μ 7756 190 := sorry
end Te
end
section
section Te
variable {μ μ' μ'' : ab_M} {d : Nat} {S : SF} {N : NF} {s n : Nat} {h h' : He} {al al' : Nat → Bool} {ε ε' : Nat → Nat} {uM pM r j e p q lv lv' t e0 : Nat} {X : RsvT} {F : Nat → Prop} {D : Nat → Nat} {v : Int} {l : List Int} {T : Nat → Int} {x x' : It} {σ σ' : Sg}
theorem tw_Lk (hl : μ 7756 189 = ((lv + 1 : Nat) : Int)) (l64 : lv < 64) (fe : μ 7894 lv = e) (hp : μ 7756 180 = p) (ne : p ≠ e) : (ab_run wt (d + 9) 267 30 [(2, 7756), (3, 0), (3, 0)] [] μ) = ab_cal (ab_run wt (d + 8) 252 0 [(2, 7756), (0, lv), (3, 0), (3, 0), (3, 0), (3, 0), (3, 0), (3, 0), (3, 0), (3, 0), (3, 0), (3, 0), (3, 0), (3, 0), (3, 0), (3, 0)] [] μ) 0 (fun r2 μ2 => some ((4, r2), μ2)) (fun r2 μ2 => if r2 = 0 then some ((0, 0), μ2) else (ab_run wt (d + 9) 267 30 [(2, 7756), (3, 0), (3, 0)] [] μ2)) := sorry
theorem tw_Ll (hl : μ 7756 189 = ((lv + 1 : Nat) : Int)) (l64 : lv < 64) (fe : μ 7894 lv = e) (hp : μ 7756 180 = e) : (ab_run wt (d + 9) 267 30 [(2, 7756), (3, 0), (3, 0)] [] μ) = ab_cal (ab_run wt (d + 8) 144 0 [(2, 7756), (0, lv), (3, 0), (3, 0), (3, 0), (3, 0), (3, 0)] [] μ) 0 (fun r2 μ2 => some ((4, r2), μ2)) (fun r2 μ2 => if r2 = 0 then some ((0, 0), μ2) else (ab_run wt (d + 9) 267 30 [(2, 7756), (3, 0), (3, 0)] [] μ2)) := sorry
theorem FtTd.lp {run : ab_R} {f : Flt} {L : ab_M → ab_R} (g : FtTd run μ f) : FtTd (ab_cal run 0 (fun r2 μ2 => some ((4, r2), μ2)) (fun r2 μ2 => if r2 = 0 then some ((0, 0), μ2) else L μ2)) μ f := sorry
theorem tw_lp1 {run : ab_R} {L : ab_M → ab_R} (g : run = some ((0, 1), μ')) : ab_cal run 0 (fun r2 μ2 => some ((4, r2), μ2)) (fun r2 μ2 => if r2 = 0 then some ((0, 0), μ2) else L μ2) = L μ' := sorry
theorem FtTd.ch {run : ab_R} {f : Flt} (g : FtTd run μ f) : FtTd (ab_cal run 0 (fun r7 μ7 => some ((4, r7), μ7)) (fun r7 μ7 => if r7 = 0 ∨ r7 = 1 then some ((0, r7), μ7) else none)) μ f := sorry
theorem tw_ch1 {run : ab_R} (g : run = some ((0, 1), μ')) : ab_cal run 0 (fun r7 μ7 => some ((4, r7), μ7)) (fun r7 μ7 => if r7 = 0 ∨ r7 = 1 then some ((0, r7), μ7) else none) = some ((0, 1), μ') := sorry
theorem tw_mnS (ts : TSd X F S N T n s μ q σ al ε) (hr : r < σ.1.1) (ha : al r = true) (he : e ≤ n) (hq : q ≤ e) : (∀ g, mny T e q = .inl g → FtTd (ab_run wt (d + 3) 161 0 [(2, 7756), (0, e)] [] μ) μ g) ∧ ∀ u q', mny T e q = .inr (u, q') → ∃ μ1, (ab_run wt (d + 3) 161 0 [(2, 7756), (0, e)] [] μ) = some ((0, 1), μ1) ∧ TSd X F S N T n s μ1 q' σ al ε ∧ w32 (μ1 7756 180 + w32 (μ1 7756 181)) = ((q' + u : Nat) : Int) ∧ (∀ a i, (a ≠ 7756 ∨ i ≠ 180 ∧ i ≠ 181) → μ1 a i = μ a i) ∧ q < q' ∧ q' + u ≤ e := sorry
theorem tw_rpR {w dp t' : Nat} (ts : TSd (upL X e0 (some (t, j, x))) (pbF S t j x F) S N T n s μ q σ al ε) (i : hIn S σ.1 D) (hr : r < σ.1.1) (ha : al r = true) (ht : t = σ.1.2.1 r) (hj : j < fCt S t) (m3 : S 11 t j = 3) (z12 : S 12 t j = 12) (h13 : S 13 t j = t') (tO : (t' : Int) < S 0 0 0 ∧ S 2 t' 0 = 1) (l64 : lv + 1 < 64) (fl : μ 7756 189 = ((lv + 1 : Nat) : Int)) (fi : μ 7756 190 = dp) (d12 : dp ≤ 12) (fe : μ 7893 lv = e0) (fn : μ 7894 lv = e) (ff : μ 7896 lv = fX s t j) (he : e ≤ n) (hq : q ≤ e) (hw : (w : Int) = 2) (z4 : ¬ 4400 < σ.2.1 + 2) (px : x.2.2.1 = 0 ∧ x.2.2.2.1 = []) (xr : r < x.2.2.2.2) :
    (∀ g, mny T e q = .inl g → FtTd (ab_run wt (d + 7) 258 0 [(2, 7756), (0, lv), (1, 2), (3, 0), (0, w), (0, p), (3, 0), (3, 0), (3, 0), (3, 0), (3, 0), (3, 0)] [] μ) μ g) ∧ ∀ u q', mny T e q = .inr (u, q') → (dp = 12 → FtTd (ab_run wt (d + 7) 258 0 [(2, 7756), (0, lv), (1, 2), (3, 0), (0, w), (0, p), (3, 0), (3, 0), (3, 0), (3, 0), (3, 0), (3, 0)] [] μ) μ (6, (p : Int))) ∧ (dp ≠ 12 → ∃ μ' al', (ab_run wt (d + 7) 258 0 [(2, 7756), (0, lv), (1, 2), (3, 0), (0, w), (0, p), (3, 0), (3, 0), (3, 0), (3, 0), (3, 0), (3, 0)] [] μ) = some ((0, 1), μ') ∧ TSd (upL X e0 (some (t, j, x.1, x.2.1, 0, [], σ.1.1))) (pbF S t j (x.1, x.2.1, 0, [], σ.1.1) F) S N T n s μ' q' (hOrp σ.1 t', σ.2.1 + 2, σ.2.2) al' (upL ε σ.1.1 e0) ∧ al' σ.1.1 = true ∧ tdK r σ.1 al al' ε (upL ε σ.1.1 e0) ∧ μ' 7756 189 = ((lv + 1 + 1 : Nat) : Int) ∧ μ' 7756 190 = ((dp + 1 : Nat) : Int) ∧ (μ' 7892 (lv + 1) = 0 ∧ μ' 7893 (lv + 1) = e0 ∧ μ' 7894 (lv + 1) = ((q' + u : Nat) : Int)) ∧ (∀ a, 7892 ≤ a → a ≤ 7897 → μ' a lv = μ a lv) ∧ frTd lv μ μ') := sorry
end Te
end
section
section Te
variable {μ μ' μ'' : ab_M} {d : Nat} {S : SF} {N : NF} {s n : Nat} {h h' : He} {al al' : Nat → Bool} {ε ε' : Nat → Nat} {uM pM r j e p q lv lv' t e0 : Nat} {X : RsvT} {F : Nat → Prop} {D : Nat → Nat} {v : Int} {l : List Int} {T : Nat → Int} {x x' : It} {σ σ' : Sg}
def TRs (d : Nat) (S : SF) (N : NF) (T : Nat → Int) (n s : Nat) (rec : Rdr) : Prop := ∀ (X : RsvT) (F : Nat → Prop) (μ : ab_M) (r e dp p : Nat) (σ : Sg) (al : Nat → Bool) (ε : Nat → Nat) (lv : Nat) (D : Nat → Nat), TSd X F S N T n s μ p σ al ε → hIn S σ.1 D → r < σ.1.1 → al r = true → D r = dp → dp ≤ 12 → p ≤ e → e ≤ n → lv + 2 ≤ 2 * dp → μ 7756 189 = ((lv + 1 : Nat) : Int) → μ 7756 190 = dp → (μ 7892 lv = 0 ∧ μ 7893 lv = ε r ∧ μ 7894 lv = e) → rec r e dp p σ ≠ .inl ovr →
  (∀ g, rec r e dp p σ = .inl g → FtTd (ab_run wt (d + 9) 267 30 [(2, 7756), (3, 0), (3, 0)] [] μ) μ g) ∧ ∀ σ', rec r e dp p σ = .inr σ' → ∃ μ' al' ε', (ab_run wt (d + 9) 267 30 [(2, 7756), (3, 0), (3, 0)] [] μ) = (ab_run wt (d + 9) 267 30 [(2, 7756), (3, 0), (3, 0)] [] μ') ∧ TSd X F S N T n s μ' e σ' al' ε' ∧ μ' 7756 189 = lv ∧ μ' 7756 190 = ((dp - 1 : Nat) : Int) ∧ tdK r σ.1 al al' ε ε' ∧ frTd lv μ μ'
theorem tw_pairL {rec : Rdr} {dp : Nat} (ih : TRs d S N T n s rec) (hk : RdK S n rec) (ok : scOK S N) (he : e ≤ n) (d12 : dp ≤ 12) (hlv : lv + 1 ≤ 2 * dp) (m3 : S 11 t j = 3) : ∀ (f p : Nat) (σ : Sg) (x : It) (μ : ab_M) (al : Nat → Bool) (ε : Nat → Nat) (D : Nat → Nat), TSd (upL X e0 (some (t, j, x))) (pbF S t j x F) S N T n s μ p σ al ε → hIn S σ.1 D → r < σ.1.1 → al r = true → t = σ.1.2.1 r → j < fCt S t → D r = dp → pOK S σ.1 D r j dp x → p ≤ e → μ 7756 189 = ((lv + 1 : Nat) : Int) → μ 7756 190 = dp → pFr μ lv e0 e s t j (ε r) dp → sPl S T t j e dp rec f p σ x ≠ .inl ovr →
    (∀ g, sPl S T t j e dp rec f p σ x = .inl g → FtTd (ab_run wt (d + 9) 267 30 [(2, 7756), (3, 0), (3, 0)] [] μ) μ g) ∧ ∀ σ' x', sPl S T t j e dp rec f p σ x = .inr (σ', x') → ∃ (μ' : ab_M) (al' : Nat → Bool) (ε' : Nat → Nat), (ab_run wt (d + 9) 267 30 [(2, 7756), (3, 0), (3, 0)] [] μ) = (ab_run wt (d + 9) 267 30 [(2, 7756), (3, 0), (3, 0)] [] μ') ∧ TSd (upL X e0 (some (t, j, x'))) (pbF S t j x' F) S N T n s μ' e σ' al' ε' ∧ μ' 7756 189 = ((lv + 1 : Nat) : Int) ∧ μ' 7756 190 = dp ∧ pFr μ' lv e0 e s t j (ε r) dp ∧ μ' 7895 lv = μ 7895 lv ∧ tdK r σ.1 al al' ε ε' ∧ frTd lv μ μ' := sorry
end Te
end
section
section Te
variable {μ μ' μ'' : ab_M} {d : Nat} {S : SF} {N : NF} {s n : Nat} {h h' : He} {al al' : Nat → Bool} {ε ε' : Nat → Nat} {uM pM r j e p q lv lv' t e0 : Nat} {X : RsvT} {F : Nat → Prop} {D : Nat → Nat} {v : Int} {l : List Int} {T : Nat → Int} {x x' : It} {σ σ' : Sg}
theorem tw_fValue0 {t' : Nat} (ts : TS μ s S N) (tt : (t : Int) < S 0 0 0 ∧ S 2 t 0 = 1) (hj : j < fCt S t) (k11 : S 12 t j = 11) (h13 : S 13 t j = t') : (ab_run wt (d + 1) 54 0 [(2, 7756), (0, (fX s t j))] [] μ) = some ((1, S 25 t' 0), μ) := sorry
theorem tw_begin {dp : Nat} (ts : TSd X F S N T n s μ q σ al ε) (i : hIn S σ.1 D) (hr : r < σ.1.1) (ha : al r = true) (hj : j < fCt S (σ.1.2.1 r)) (m3 : S 11 (σ.1.2.1 r) j = 3) (l64 : lv + 1 < 64) (fl : μ 7756 189 = ((lv + 1 : Nat) : Int)) (fi : μ 7756 190 = dp) (d12 : dp ≤ 12) (he : e ≤ n) (hq : q ≤ e) (z4 : ¬ 4400 < σ.2.1 + 2) :
    (∀ g, mny T e q = .inl g → FtTd (ab_run wt (d + 7) 8 0 [(2, 7756), (0, (ε r)), (0, (fX s (σ.1.2.1 r) j)), (0, p), (0, e), (3, 0), (3, 0)] [] μ) μ g) ∧ ∀ u q', mny T e q = .inr (u, q') → ∃ (e0 : Nat) (μ' : ab_M), X e0 = none ∧ (ab_run wt (d + 7) 8 0 [(2, 7756), (0, (ε r)), (0, (fX s (σ.1.2.1 r) j)), (0, p), (0, e), (3, 0), (3, 0)] [] μ) = some ((0, 1), μ') ∧ TSd (upL X e0 (some (σ.1.2.1 r, j, (sPb S (σ.1.2.1 r) j σ.1).2))) (pbF S (σ.1.2.1 r) j (sPb S (σ.1.2.1 r) j σ.1).2 F) S N T n s μ' q' ((sPb S (σ.1.2.1 r) j σ.1).1, σ.2.1 + 2, σ.2.2) (pbA S (σ.1.2.1 r) j σ.1 al) (pbE S (σ.1.2.1 r) j σ.1 ε e0) ∧ μ' 7756 189 = ((lv + 1 + 1 : Nat) : Int) ∧ μ' 7756 190 = dp ∧ pFr μ' (lv + 1) e0 (q' + u) s (σ.1.2.1 r) j (ε r) dp ∧ μ' 7895 (lv + 1) = p ∧ frTd (lv + 1) μ μ' := sorry
end Te
end
section
section Te
variable {μ μ' μ'' : ab_M} {d : Nat} {S : SF} {N : NF} {s n : Nat} {h h' : He} {al al' : Nat → Bool} {ε ε' : Nat → Nat} {uM pM r j e p q lv lv' t e0 : Nat} {X : RsvT} {F : Nat → Prop} {D : Nat → Nat} {v : Int} {l : List Int} {T : Nat → Int} {x x' : It} {σ σ' : Sg}
theorem tw_lvP {dp : Nat} (ts : TSd (upL X e0 (some (σ.1.2.1 r, j, x))) (pbF S (σ.1.2.1 r) j x F) S N T n s μ e σ al ε) (Xe : X e0 = none) (i : hIn S σ.1 D) (hr : r < σ.1.1) (ha : al r = true) (hj : j < fCt S (σ.1.2.1 r)) (m3 : S 11 (σ.1.2.1 r) j = 3) (hd : D r = dp) (d12 : dp ≤ 12) (px : pOK S σ.1 D r j dp x) (l64 : lv < 64) (fl : μ 7756 189 = ((lv + 1 : Nat) : Int)) (fi : μ 7756 190 = dp) (fr : pFr μ lv e0 e s (σ.1.2.1 r) j (ε r) dp) (fk : μ 7895 lv = p) :
    (S 12 (σ.1.2.1 r) j = 12 ∧ dp = 12 → FtTd (ab_run wt (d + 8) 144 0 [(2, 7756), (0, lv), (3, 0), (3, 0), (3, 0), (3, 0), (3, 0)] [] μ) μ (6, (p : Int))) ∧ (¬ (S 12 (σ.1.2.1 r) j = 12 ∧ dp = 12) → ∃ μ' al', (ab_run wt (d + 8) 144 0 [(2, 7756), (0, lv), (3, 0), (3, 0), (3, 0), (3, 0), (3, 0)] [] μ) = some ((0, 1), μ') ∧ TSd X F S N T n s μ' e (hPair S σ.1 r j x, σ.2) al' ε ∧ μ' 7756 189 = lv ∧ μ' 7756 190 = dp ∧ tdK r σ.1 al al' ε ε ∧ frTd 64 μ μ') := sorry
theorem tw_rec258 {dp : Nat} (ts : TSd X F S N T n s μ q σ al ε) (i : hIn S σ.1 D) (hr : r < σ.1.1) (ha : al r = true) (hj : j < fCt S (σ.1.2.1 r)) (m3 : S 11 (σ.1.2.1 r) j ≠ 3) (z12 : S 12 (σ.1.2.1 r) j = 12) (l64 : lv + 1 < 64) (fl : μ 7756 189 = ((lv + 1 : Nat) : Int)) (fi : μ 7756 190 = dp) (d12 : dp ≤ 12) (he : e ≤ n) (hq : q ≤ e) (z4 : ¬ 4400 < σ.2.1 + 2) :
    (∀ g, mny T e q = .inl g → FtTd (ab_run wt (d + 8) 252 258 [(2, 7756), (3, 0), (0, p), (0, e), (3, 0), (3, 0), (3, 0), (0, (ε r)), (3, 0), (0, (fX s (σ.1.2.1 r) j)), (3, 0), (0, 0), (3, 0), (3, 0), (3, 0), (3, 0)] [] μ) μ g) ∧ ∀ u q', mny T e q = .inr (u, q') → (dp = 12 → FtTd (ab_run wt (d + 8) 252 258 [(2, 7756), (3, 0), (0, p), (0, e), (3, 0), (3, 0), (3, 0), (0, (ε r)), (3, 0), (0, (fX s (σ.1.2.1 r) j)), (3, 0), (0, 0), (3, 0), (3, 0), (3, 0), (3, 0)] [] μ) μ (6, (p : Int))) ∧ (dp ≠ 12 → ∀ h1 r', (h1, r') = (if S 11 (σ.1.2.1 r) j = 2 then (hRec S σ.1 r j (0, []), σ.1.1) else hEnt S σ.1 r j) → ∃ (μ' : ab_M) (al' : Nat → Bool) (ε' : Nat → Nat), (ab_run wt (d + 8) 252 258 [(2, 7756), (3, 0), (0, p), (0, e), (3, 0), (3, 0), (3, 0), (0, (ε r)), (3, 0), (0, (fX s (σ.1.2.1 r) j)), (3, 0), (0, 0), (3, 0), (3, 0), (3, 0), (3, 0)] [] μ) = some ((0, 1), μ') ∧ TSd X F S N T n s μ' q' (h1, σ.2.1 + 2, σ.2.2) al' ε' ∧ al' r' = true ∧ tdK r σ.1 al al' ε ε' ∧ μ' 7756 189 = ((lv + 1 + 1 : Nat) : Int) ∧ μ' 7756 190 = ((dp + 1 : Nat) : Int) ∧ (μ' 7892 (lv + 1) = 0 ∧ μ' 7893 (lv + 1) = ε' r' ∧ μ' 7894 (lv + 1) = ((q' + u : Nat) : Int)) ∧ frTd (lv + 1) μ μ') := sorry
def tFz (d : Nat) (X : RsvT) (F : Nat → Prop) (S : SF) (N : NF) (T : Nat → Int) (n s : Nat) (μ : ab_M) (r lv dp : Nat) (h : He) (al : Nat → Bool) (ε : Nat → Nat) : Flt ⊕ (Nat × Sg) → Prop
  | .inl f => FtTd (ab_run wt (d + 9) 267 30 [(2, 7756), (3, 0), (3, 0)] [] μ) μ f
  | .inr (p, σ') => ∃ (μ' : ab_M) (al' : Nat → Bool) (ε' : Nat → Nat), (ab_run wt (d + 9) 267 30 [(2, 7756), (3, 0), (3, 0)] [] μ) = (ab_run wt (d + 9) 267 30 [(2, 7756), (3, 0), (3, 0)] [] μ') ∧ TSd X F S N T n s μ' p σ' al' ε' ∧ μ' 7756 189 = ((lv + 1 : Nat) : Int) ∧ μ' 7756 190 = dp ∧ tdK r h al al' ε ε' ∧ frTd (lv + 1) μ μ'
theorem tw_fldT {rec : Rdr} {dp c : Nat} (ih : TRs d S N T n s rec) (hk : RdK S n rec) (ok : scOK S N) (ts : TSd X F S N T n s μ p σ al ε) (i : hIn S σ.1 D) (hr : r < σ.1.1) (ha : al r = true) (hd : D r = dp) (d12 : dp ≤ 12) (hp : p ≤ e) (ne : p ≠ e) (he : e ≤ n) (hlv : lv + 2 ≤ 2 * dp) (fl : μ 7756 189 = ((lv + 1 : Nat) : Int)) (fi : μ 7756 190 = dp) (fr : μ 7892 lv = 0 ∧ μ 7893 lv = ε r ∧ μ 7894 lv = e) (no : sFld S N T rec c r e dp p σ ≠ .inl ovr) :
    tFz d X F S N T n s μ r lv dp σ.1 al ε (sFld S N T rec c r e dp p σ) := sorry
theorem tw_TRs (ok : scOK S N) (hT : ∀ k, k < n → 0 ≤ T k ∧ T k < 256) : ∀ c, TRs d S N T n s (sRec S N T c) := sorry
end Te
end
section
section So
variable {S : SF} {N : NF} {D D' D'' : Nat → Nat} {r j e p n : Nat} {T : Nat → Int} {k : Int}
def fOk (g : Flt) : Prop := g.1 ≤ 10
theorem fOk.ne {g : Flt} (h : fOk g) : g ≠ ovr := sorry
theorem vrF_f {first : Nat} {g : Flt} : ∀ (f k p acc : Nat), vrF T e first f k p acc = .inl g → fOk g := sorry
theorem vrd_f {g : Flt} (h : vrd T e p = .inl g) : fOk g := sorry
theorem fxd_f {w : Nat} {g : Flt} (h : fxd T w e p = .inl g) : fOk g := sorry
theorem mny_f {g : Flt} (h : mny T e p = .inl g) : fOk g := sorry
theorem nmR_f {g : Flt} (h : nmR k T e p = .inl g) : fOk g := sorry
theorem scR_f {g : Flt} (h : scR k T e p = .inl g) : fOk g := sorry
theorem psV_f {w : Int} {g : Flt} (h : psV w T e p = .inl g) : fOk g := sorry
theorem rkY_f {g : Flt} (h : rkY T e p = .inl g) : fOk g := sorry
theorem psV_lt {w : Int} {q : Nat} (h : psV w T e p = .inr q) (hp : p ≤ e) (hT : ∀ k, k < e → 0 ≤ T k ∧ T k < 256) : p < q := sorry
def RdN (n : Nat) (c : Nat) (rec : Rdr) : Prop := ∀ (r e dp p : Nat) (σ : Sg), p ≤ e → e ≤ n → e < p + c → σ.2.1 + (e - p) ≤ 4398 → σ.2.2 + (e - p) ≤ 8800 → (∀ g, rec r e dp p σ = .inl g → fOk g) ∧ ∀ σ', rec r e dp p σ = .inr σ' → σ'.2.1 + p ≤ σ.2.1 + e ∧ σ'.2.2 + p ≤ σ.2.2 + e
theorem sPk_N (hT : ∀ k, k < n → 0 ≤ T k ∧ T k < 256) {last : Nat} (hl : last ≤ n) : ∀ (f p : Nat) (σ : Sg), p ≤ last → last < p + f → σ.2.1 + (last - p) ≤ 4398 → (∀ g, sPk S N T r j last f p σ = .inl g → fOk g) ∧ ∀ σ', sPk S N T r j last f p σ = .inr σ' → σ'.2.1 + p ≤ σ.2.1 + last ∧ σ'.2.2 = σ.2.2 := sorry
theorem sPl_N {rec : Rdr} {c : Nat} (hk : RdN n c rec) (hT : ∀ k, k < n → 0 ≤ T k ∧ T k < 256) {t dp : Nat} (he : e ≤ n) : ∀ (f p : Nat) (σ : Sg) (x : It), p ≤ e → e < p + f → f ≤ c → σ.2.1 + (e - p) ≤ 4398 → σ.2.2 + (e - p) ≤ 8800 → (∀ g, sPl S T t j e dp rec f p σ x = .inl g → fOk g) ∧ ∀ σ' x', sPl S T t j e dp rec f p σ x = .inr (σ', x') → σ'.2.1 + p ≤ σ.2.1 + e ∧ σ'.2.2 + p ≤ σ.2.2 + e := sorry
theorem sOwn_N {rec : Rdr} {c dp : Nat} (hk : RdN n c rec) (hT : ∀ k, k < n → 0 ≤ T k ∧ T k < 256) {q : Nat} {w : Int} {σ : Sg} (he : e ≤ n) (hp : p < q) (hq : q ≤ e) (hc : e < p + 1 + c) (h4 : σ.2.1 + (e - p) ≤ 4398) (h5 : σ.2.2 + (e - p) ≤ 8800) :
    (∀ g, sOwn S N T rec c r e dp p σ j w q = .inl g → fOk g) ∧ ∀ p' σ', sOwn S N T rec c r e dp p σ j w q = .inr (p', σ') → (p < p' ∧ p' ≤ e) ∧ σ'.2.1 + p ≤ σ.2.1 + p' ∧ σ'.2.2 + p ≤ σ.2.2 + p' := sorry
theorem sFld_N {rec : Rdr} {c dp : Nat} (hk : RdN n c rec) (hT : ∀ k, k < n → 0 ≤ T k ∧ T k < 256) {σ : Sg} (he : e ≤ n) (hp : p < e) (hc : e < p + 1 + c) (h4 : σ.2.1 + (e - p) ≤ 4398) (h5 : σ.2.2 + (e - p) ≤ 8800) :
    (∀ g, sFld S N T rec c r e dp p σ = .inl g → fOk g) ∧ ∀ p' σ', sFld S N T rec c r e dp p σ = .inr (p', σ') → (p < p' ∧ p' ≤ e) ∧ σ'.2.1 + p ≤ σ.2.1 + p' ∧ σ'.2.2 + p ≤ σ.2.2 + p' := sorry
theorem sRec_N (hT : ∀ k, k < n → 0 ≤ T k ∧ T k < 256) : ∀ c, RdN n c (sRec S N T c) := sorry
noncomputable def sDc (S : SF) (N : NF) (T : Nat → Int) (n t : Nat) : Flt ⊕ Sg := sRec S N T (n + 1) 0 n 1 0 (hNew t, 0, 0)
theorem sDc_no {t : Nat} (hT : ∀ k, k < n → 0 ≤ T k ∧ T k < 256) (n4 : n ≤ 4000) : sDc S N T n t ≠ .inl ovr := sorry
theorem hIn.new {t : Nat} (ht : (t : Int) < S 0 0 0 ∧ S 2 t 0 = 1) : hIn S (hNew t) (fun _ => 1) := sorry
end So
end
section
section Dc
variable {μ μ' μ'' : ab_M} {d : Nat} {S : SF} {N : NF} {s b t n ar L : Nat} {h : He} {T : Nat → Int} {D1 : Nat → Nat}
def frRb (μ μ' : ab_M) : Prop := ∀ a i, ¬ inM 1255 a → a ≠ 2 → (a ≠ 1 ∨ (i < 14 ∨ 17 < i) ∧ (i < 25 ∨ 47 < i)) → μ' a i = μ a i
theorem frRb.trans (f : frRb μ μ') (g : frRb μ' μ'') : frRb μ μ'' := sorry
theorem frM.rb (f : frM 1255 μ μ') : frRb μ μ' := sorry
theorem frSd.rb (f : frSd 1255 μ μ') : frRb μ μ' := sorry
theorem frE.rb (f : frE μ μ') : frRb μ μ' := sorry
def RBc (S : SF) (N : NF) (run : ab_R) (μ : ab_M) (s b : Nat) : Flt ⊕ He → Prop
  | .inl f => RT run (fun μ' => μ' 2 6 = f.1 ∧ μ' 2 7 = f.2 ∧ frRb μ μ')
  | .inr h => R3 run (fun μ' => cSto S N μ' 1255 2600 9000 12000 s b h ∧ frRb μ μ')
noncomputable def lgR (S : SF) : Flt ⊕ He → Flt ⊕ He
  | .inl f => .inl f
  | .inr h => if 400 < vlS S h ∨ 2000 < btS S h then .inl (7, 0) else .inr h
theorem c_rbStart (s4 : s < 4) (h10 : μ 10 s = b) (hb : isS b) (ok : scOK S N) (hc : cSc μ b S N) (tO : (t : Int) < S 0 0 0 ∧ S 2 t 0 = 1) :
    ∃ μa μb, (ab_run wc (d + 3) 612 0 [(2, 1255), (0, s)] [] μ) = some ((3, 0), μa) ∧ (ab_run wc (d + 3) 462 0 [(2, 1), (2, 1255), (0, t)] [] μa) = some ((0, 0), μb) ∧ (∀ j, j < fCt S t → μb (msA 1255 10) j = 0) ∧ ∀ μ0, μ0 = ab_up (ab_up (ab_up (ab_up (ab_up μb 1255 2 0) 1 25 (ar : Int)) 1 26 0) 1 30 (n : Int)) 1 33 0 → cMS μ0 1255 s b S N ∧ CM (fun _ => none) S μ0 1255 2600 9000 12000 (hNew t).1 (hNew t).2.1 (hNew t).2.2.1 (hNew t).2.2.2 0 0 0 ∧ μ0 1255 2 = 0 ∧ (μ0 1 25 = ar ∧ μ0 1 26 = 0 ∧ μ0 1 30 = n ∧ μ0 1 33 = 0) ∧ frRb μ μ0 ∧ ∀ i, i ≠ 25 → i ≠ 26 → i ≠ 30 → i ≠ 33 → μ0 1 i = μ 1 i := sorry
theorem c_rbEnd {D : Nat} {run : ab_R} (st : cSto S N μ' 1255 2600 9000 12000 s b h) (i : hIn S h D1) (ok : scOK S N) (hD : 2610 ≤ D) (tr : (0 ≤ vlS S h ∧ vlS S h < 1000000) ∧ (0 ≤ btS S h ∧ btS S h < 1000000000)) (f : frRb μ μ') (hrun : run = ab_cal (ab_run wc D 415 0 [(2, 1), (2, 1255)] [] μ') 0 (fun r11 μ11 => some ((4, r11), μ11)) (fun r11 μ11 => (if r11 = 0 then some ((3, 0), μ11) else (ab_cal (ab_run wc D 497 0 [(2, 1), (0, 7), (0, 0)] [] μ11) 2 (fun r12 μ12 => some ((4, r12), μ12)) (fun r12 μ12 => (cond (wc_ob (r12).toNat 2) (some ((4, r12), μ12)) none)))))) :
    RBc S N run μ s b (lgR S (.inr h)) := sorry
theorem c_readBytes0 {D : Nat} (hD : 2620 ≤ D) (s4 : s < 4) (h10 : μ 10 s = b) (hb : isS b) (ok : scOK S N) (hc : cSc μ b S N) (tO : (t : Int) < S 0 0 0 ∧ S 2 t 0 = 1) (ha : wc_ar ar = (4, L)) (nl : n ≤ L) (L5 : L < 100000) (n4 : n ≤ 4000) (hx : ∀ k, k < n → 0 ≤ T k ∧ T k < 256 ∧ μ ar k = sg (T k)) (na : ¬ inM 1255 ar ∧ ar ≠ 1 ∧ ar ≠ 2)
    (tr : ∀ σ, sDc S N T n t = .inr σ → (0 ≤ vlS S σ.1 ∧ vlS S σ.1 < 1000000) ∧ (0 ≤ btS S σ.1 ∧ btS S σ.1 < 1000000000)) :
    RBc S N (ab_run wc ((D + 1)) 488 0 [(2, 1), (2, ar), (0, 0), (0, n), (0, s), (0, t), (0, 0)] [] μ) μ s b (lgR S (match sDc S N T n t with
      | .inl f => .inl f
      | .inr σ => .inr σ.1)) := sorry
end Dc
end
section
section Dc
variable {μ μ' μ'' : ab_M} {d : Nat} {S : Nat → SF} {N : Nat → NF} {bs : Nat → Nat} {th : Nat → Int} {s k rw m : Nat} {fm : Int} {R : Flt ⊕ He}
def frDc (m : Nat) (μ μ' : ab_M) : Prop := ∀ a i, ¬ inM 1255 a → ¬ inM (6314 + 27 * m) a → a ≠ 2 → (a ≠ 1 ∨ i ≠ 3 ∧ (i < 14 ∨ 17 < i) ∧ (i < 25 ∨ 47 < i)) → μ' a i = μ a i
theorem c_kept2 {S : SF} {N : NF} {b D : Nat} {h : He} {D1 : Nat → Nat} (hm : m < 12) (st : cSto S N μ 1255 2600 9000 12000 s b h) (i : hIn S h D1) (d0 : D1 0 = 1) (b1 : vlS S h ≤ 400) (b2 : btS S h ≤ 2000) (hD : 5300 ≤ D) :
    R0 (ab_run wc ((D + 1)) 429 0 [(2, 1), (0, m)] [] μ) (fun v μ' => v = vlS S h ∧ μ' (6314 + 27 * m) 0 = 1 ∧ μ' 1 3 = -2 ∧ (∃ h', mC S N μ' m s b h' ∧ hEq S h h' ∧ mE S h') ∧ frY (6314 + 27 * m) μ μ') := sorry
theorem c_decodeG {D : Nat} (hD : 6000 ≤ D) (s4 : s < 4) (f3 : 0 ≤ fm ∧ fm < 3) (r8 : rw < 8) (m12 : m < 12) (cs : cSs μ bs th S N) {l : List Int} (c : cRow μ (rwA rw) (rbA rw) 4000 l)
    (rb : th s = 1 → (k : Int) < S s 0 0 0 → S s 2 k 0 = 1 → RBc (S s) (N s) (ab_run wc ((D + 1)) 488 0 [(2, 1), (2, (rbA rw)), (0, 0), (0, (l.length)), (0, s), (0, k), (0, fm)] [] μ) μ s (bs s) (lgR (S s) R)) (hw : th s = 1 → (k : Int) < S s 0 0 0 → S s 2 k 0 = 1 → ∀ h, R = .inr h → ∃ D1, hIn (S s) h D1 ∧ D1 0 = 1) :
    R0 (ab_run wc ((D + 2)) 388 0 [(2, 1), (0, s), (0, k), (0, fm), (0, rw), (0, m), (3, 0)] [] μ) (fun v μ' => if th s = 0 then v = -2 ∧ μ' = μ else if ¬ ((k : Int) < S s 0 0 0 ∧ S s 2 k 0 = 1) then v = -1 ∧ μ' = μ else frDc m μ μ' ∧ match lgR (S s) R with
      | .inl f => v = w32 (-10 - f.1) ∧ μ' 1 3 = f.2 ∧ ∀ a, inM (6314 + 27 * m) a → ∀ i, μ' a i = μ a i
      | .inr h => v = vlS (S s) h ∧ μ' (6314 + 27 * m) 0 = 1 ∧ μ' 1 3 = -2 ∧ ∃ h', mC (S s) (N s) μ' m s (bs s) h' ∧ hEq (S s) h h' ∧ mE (S s) h') := sorry
end Dc
end
section
section Dt
variable {μ μ' μ'' : ab_M} {d : Nat} {s t n m rw k : Nat} {h : He} {T : Nat → Int} {D1 : Nat → Nat} {fm : Int} {R : Flt ⊕ He}
def frRt (μ μ' : ab_M) : Prop := ∀ a i, ¬ mine 12 a i → (a ≠ 7863 ∨ i ≠ 12) → (a ≠ 7864 ∨ i ≠ 12) → (a < 7892 ∨ 7920 < a) → a ≠ 7860 → (a ≠ 7756 ∨ i ≠ 17 ∧ i ≠ 18 ∧ i ≠ 130 ∧ (i < 154 ∨ 178 < i) ∧ i ≠ 179 ∧ (i < 180 ∨ 232 < i)) → μ' a i = μ a i
theorem frRt.trans (f : frRt μ μ') (g : frRt μ' μ'') : frRt μ μ'' := sorry
theorem frTd.rt {lv : Nat} (f : frTd lv μ μ') : frRt μ μ' := sorry
def RBt (S : SF) (N : NF) (run : ab_R) (μ : ab_M) (s : Nat) : Flt ⊕ He → Prop
  | .inl f => R0 run (fun v μ' => v = 0 ∧ μ' 7756 17 = f.1 ∧ μ' 7756 18 = f.2 ∧ frRt μ μ')
  | .inr h => R0 run (fun v μ' => v = 1 ∧ (∃ al ε uM pM, TD (fun _ => none) (fun _ => False) S N 12 s μ' h al ε uM pM) ∧ frRt μ μ')
theorem tw_so12 {l : List Int} (r8 : rw < 8) (l4 : l.length ≤ 4000) (hb : ∀ x ∈ l, 0 ≤ x ∧ x < 256) : ∀ (w i : Nat) (μ : ab_M), i + w = l.length → μ 7756 179 = l.length → tBy μ 7758 (4000 * rw) l → (∀ y, y < i → μ 7891 y = tpT l y) → R3 (ab_run wt (d + 1) 292 12 [(2, 7756), (0, rw), (0, i)] [] μ) (fun μ' => (∀ y, y < l.length → μ' 7891 y = tpT l y) ∧ ∀ a y, a ≠ 7891 → μ' a y = μ a y) := sorry
theorem tw_sourceOf {tp : List Int} {rows : Nat → List Int} (r8 : rw < 8) (c : tR μ tp rows) (hb : ∀ x ∈ rows rw, 0 ≤ x ∧ x < 256) : R3 (ab_run wt (d + 1) 292 0 [(2, 7756), (0, rw), (3, 0)] [] μ) (fun μ' => tIn μ' (rows rw).length (tpT (rows rw)) ∧ μ' 7756 179 = (rows rw).length ∧ ∀ a i, a ≠ 7891 → (a ≠ 7756 ∨ i ≠ 179) → μ' a i = μ a i) := sorry
theorem tw_readFormat0 {S : SF} {N : NF} (ts : TS μ s S N) (g0 : S 99 0 0 = 0) (tO : (t : Int) < S 0 0 0 ∧ S 2 t 0 = 1) (c : tIn μ n T) (n4 : n ≤ 4000) (he : μ 7756 179 = n) : RBt S N (ab_run wt (d + 11) 250 0 [(2, 7756), (0, s), (0, t), (0, 0)] [] μ) μ s (lgR S (match sDc S N T n t with
      | .inl f => .inl f
      | .inr σ => .inr σ.1)) ∧ ∀ σ, sDc S N T n t = .inr σ → (0 ≤ vlS S σ.1 ∧ vlS S σ.1 < 1000000) ∧ (0 ≤ btS S σ.1 ∧ btS S σ.1 < 1000000000) := sorry
def frDt (m : Nat) (μ μ' : ab_M) : Prop := ∀ a i, ¬ mine 12 a i → ¬ mine m a i → (a < 7862 ∨ 7864 < a ∨ i ≠ 12 ∧ i ≠ m) → a ≠ 7885 → a ≠ 7886 → a ≠ 7891 → (a < 7892 ∨ 7920 < a) → a ≠ 7860 → (a ≠ 7756 ∨ i ≠ 4 ∧ i ≠ 17 ∧ i ≠ 18 ∧ i ≠ 130 ∧ (i < 154 ∨ 178 < i) ∧ i ≠ 179 ∧ (i < 180 ∨ 232 < i)) → μ' a i = μ a i
theorem tw_decodeG {S : Nat → SF} {N : Nat → NF} {th : Nat → Int} {tp : List Int} {rows : Nat → List Int} (s4 : s < 4) (f3 : 0 ≤ fm ∧ fm < 3) (r8 : rw < 8) (m12 : m < 12) (ts : tSs μ th S N) (nu : th s = 1 → nuOK (S s)) (gz : S s 99 0 0 = 0) (rz : rtZ μ m) (c : tR μ tp rows) (hb : ∀ x ∈ rows rw, 0 ≤ x ∧ x < 256)
    (rb : th s = 1 → (k : Int) < S s 0 0 0 → S s 2 k 0 = 1 → ∀ μ1, TS μ1 s (S s) (N s) → tIn μ1 (rows rw).length (tpT (rows rw)) → μ1 7756 179 = (rows rw).length → RBt (S s) (N s) (ab_run wt (d + 11) 250 0 [(2, 7756), (0, s), (0, k), (0, fm)] [] μ1) μ1 s (lgR (S s) R)) (hw : th s = 1 → (k : Int) < S s 0 0 0 → S s 2 k 0 = 1 → ∀ h, R = .inr h → ∃ D1, hIn (S s) h D1 ∧ D1 0 = 1) :
    R0 (ab_run wt (d + 12) 34 0 [(2, 7756), (0, s), (0, k), (0, fm), (0, rw), (0, m)] [] μ) (fun v μ' => if th s = 0 then v = -2 ∧ μ' = μ else if ¬ ((k : Int) < S s 0 0 0 ∧ S s 2 k 0 = 1) then v = -1 ∧ μ' = μ else frDt m μ μ' ∧ match lgR (S s) R with
      | .inl f => v = w32 (-10 - f.1) ∧ μ' 7756 4 = f.2 ∧ ∀ a i, mine m a i → a ≠ 7756 → a ≠ 7880 → μ' a i = μ a i
      | .inr h => v = vlS (S s) h ∧ μ' 7862 m = 1 ∧ μ' 7756 4 = -2 ∧ ∃ h', mT (S s) (N s) μ' m s h' ∧ hEq (S s) h h') := sorry
end Dt
end
section
section D0
variable {μ : ab_M} {d : Nat} {S : Nat → SF} {N : Nat → NF} {bs : Nat → Nat} {th : Nat → Int} {s k rw m : Nat} {tp : List Int} {rows : Nat → List Int}
noncomputable def sDh (S : SF) (N : NF) (l : List Int) (t : Nat) : Flt ⊕ He := match sDc S N (tpT l) l.length t with
  | .inl f => .inl f
  | .inr σ => .inr σ.1
theorem tpT_rg {l : List Int} (hb : ∀ x ∈ l, 0 ≤ x ∧ x < 256) : ∀ k, k < l.length → 0 ≤ tpT l k ∧ tpT l k < 256 := sorry
theorem sDh_in {S : SF} {N : NF} {l : List Int} {t : Nat} {h : He} (ok : scOK S N) (hb : ∀ x ∈ l, 0 ≤ x ∧ x < 256) (tO : (t : Int) < S 0 0 0 ∧ S 2 t 0 = 1) (e : sDh S N l t = .inr h) : ∃ D1, hIn S h D1 ∧ D1 0 = 1 := sorry
theorem sDh_tr {S : SF} {N : NF} {l : List Int} {t : Nat} (ts : TS μ s S N) (g0 : S 99 0 0 = 0) (c : tIn μ l.length (tpT l)) (n4 : l.length ≤ 4000) (tO : (t : Int) < S 0 0 0 ∧ S 2 t 0 = 1) : ∀ σ, sDc S N (tpT l) l.length t = .inr σ → (0 ≤ vlS S σ.1 ∧ vlS S σ.1 < 1000000) ∧ (0 ≤ btS S σ.1 ∧ btS S σ.1 < 1000000000) := sorry
theorem tw_decode0 (s4 : s < 4) (r8 : rw < 8) (m12 : m < 12) (ts : tSs μ th S N) (nu : th s = 1 → nuOK (S s)) (gz : S s 99 0 0 = 0) (rz : rtZ μ m) (c : tR μ tp rows) (hb : ∀ x ∈ rows rw, 0 ≤ x ∧ x < 256) :
    R0 (ab_run wt (d + 12) 34 0 [(2, 7756), (0, s), (0, k), (0, 0), (0, rw), (0, m)] [] μ) (fun v μ' => if th s = 0 then v = -2 ∧ μ' = μ else if ¬ ((k : Int) < S s 0 0 0 ∧ S s 2 k 0 = 1) then v = -1 ∧ μ' = μ else frDt m μ μ' ∧ match lgR (S s) (sDh (S s) (N s) (rows rw) k) with
      | .inl f => v = w32 (-10 - f.1) ∧ μ' 7756 4 = f.2 ∧ ∀ a i, mine m a i → a ≠ 7756 → a ≠ 7880 → μ' a i = μ a i
      | .inr h => v = vlS (S s) h ∧ μ' 7862 m = 1 ∧ μ' 7756 4 = -2 ∧ ∃ h', mT (S s) (N s) μ' m s h' ∧ hEq (S s) h h') := sorry
theorem c_decode0 {D : Nat} (hD : 6000 ≤ D) (s4 : s < 4) (r8 : rw < 8) (m12 : m < 12) (cs : cSs μ bs th S N) (c : cR μ tp rows) (hb : ∀ x ∈ rows rw, 0 ≤ x ∧ x < 256) (tr : th s = 1 → (k : Int) < S s 0 0 0 → S s 2 k 0 = 1 → ∀ σ, sDc (S s) (N s) (tpT (rows rw)) (rows rw).length k = .inr σ → (0 ≤ vlS (S s) σ.1 ∧ vlS (S s) σ.1 < 1000000) ∧ (0 ≤ btS (S s) σ.1 ∧ btS (S s) σ.1 < 1000000000)) :
    R0 (ab_run wc ((D + 2)) 388 0 [(2, 1), (0, s), (0, k), (0, 0), (0, rw), (0, m), (3, 0)] [] μ) (fun v μ' => if th s = 0 then v = -2 ∧ μ' = μ else if ¬ ((k : Int) < S s 0 0 0 ∧ S s 2 k 0 = 1) then v = -1 ∧ μ' = μ else frDc m μ μ' ∧ match lgR (S s) (sDh (S s) (N s) (rows rw) k) with
      | .inl f => v = w32 (-10 - f.1) ∧ μ' 1 3 = f.2 ∧ ∀ a, inM (6314 + 27 * m) a → ∀ i, μ' a i = μ a i
      | .inr h => v = vlS (S s) h ∧ μ' (6314 + 27 * m) 0 = 1 ∧ μ' 1 3 = -2 ∧ ∃ h', mC (S s) (N s) μ' m s (bs s) h' ∧ hEq (S s) h h' ∧ mE (S s) h') := sorry
end D0
end
section
section Ln
variable {μ μ' μ'' : ab_M} {d a L n p : Nat} {T : Nat → Int} {k : Int} {S : SF} {N : NF} {t : Nat}
def hgS (T : Nat → Int) (p : Nat) : Nat → Nat
  | 0 => 0
  | i + 1 => hgS T p i * 256 + (T (p + i)).toNat
def hgd (T : Nat → Int) (w e p : Nat) : Flt ⊕ (Nat × Nat) := if e < p + w then .inl (1, (e : Int)) else .inr (hgS T p w, p + w)
theorem hgS_lt (hT : ∀ k, k < n → 0 ≤ T k ∧ T k < 256) : ∀ i, p + i ≤ n → hgS T p i < 256 ^ i := sorry
theorem hgd_ok {w u q : Nat} (h : hgd T w n p = .inr (u, q)) (hT : ∀ k, k < n → 0 ≤ T k ∧ T k < 256) : q = p + w ∧ p + w ≤ n ∧ u < 256 ^ w ∧ u = hgS T p w := sorry
theorem or64_comm {x y : Int} : or64 x y = or64 y x := sorry
theorem or_hi8 {acc x : Nat} (hx : x < 256) : or64 (shl64 (w64 (acc : Int)) 8) (x : Int) = w64 ((acc * 256 + x : Nat) : Int) := sorry
theorem or_hi32 {acc x : Nat} (hx : x < 4294967296) : or64 (shl64 (w64 (acc : Int)) 32) (x : Int) = w64 ((acc * 4294967296 + x : Nat) : Int) := sorry
theorem c_hg28 {w : Nat} (hw : w ≤ 8) (hp : p + w ≤ n) : ∀ (m i : Nat) (μ : ab_M), i + m = w → cIn μ a L n T → μ 1 26 = ((p + i : Nat) : Int) → (ab_run wc (d + 1) 407 28 [(2, 1), (0, w), (1, (w64 (hgS T p i : Int))), (3, 0), (0, i)] [] μ) = some ((1, w64 (hgS T p w : Int)), ab_up μ 1 26 ((p + w : Nat) : Int)) := sorry
theorem c_high {w : Nat} (hw : w ≤ 8) (hp : p ≤ n) (c : cIn μ a L n T) (hat : μ 1 26 = p) (he : μ 1 30 = n) : cRd 1 (ab_run wc (d + 2) 407 0 [(2, 1), (0, w), (3, 0), (3, 0), (3, 0)] [] μ) μ (uLg (hgd T w n p)) := sorry
theorem tw_fr30 (hp : p + 4 ≤ n) : ∀ (m i : Nat) (μ : ab_M), i + m = 4 → tIn μ n T → μ 7756 180 = p → μ 7756 181 = (hgS T p i : Int) → (ab_run wt (d + 1) 71 30 [(2, 7756), (0, i)] [] μ) = some ((0, 1), ab_up (ab_up μ 7756 180 ((p + 4 : Nat) : Int)) 7756 181 (hgS T p 4 : Int)) := sorry
def nLg : Flt ⊕ (Nat × Nat) → Flt ⊕ (Int × Nat)
  | .inl f => .inl f
  | .inr (u, p) => .inr ((u : Int), p)
theorem tw_four (hp : p ≤ n) (c : tIn μ n T) (hat : μ 7756 180 = p) (hw : μ 7756 17 = 0) (he : μ 7756 179 = n) : tRd (ab_run wt (d + 2) 71 0 [(2, 7756), (3, 0)] [] μ) μ (nLg (hgd T 4 n p)) := sorry
end Ln
end
section
section Ln
variable {μ μ' μ'' : ab_M} {d a L n p : Nat} {T : Nat → Int} {k : Int} {S : SF} {N : NF} {t : Nat}
def lfl (T : Nat → Int) (n p : Nat) : Flt ⊕ (Nat × Nat) := match hgd T 4 n p with
  | .inl f => .inl f
  | .inr (u, q) => if 1 < u then .inl (2, (p : Int)) else .inr (u, q)
noncomputable def lnm (S : SF) (k : Int) (t : Nat) (T : Nat → Int) (n p : Nat) : Flt ⊕ (Int × Nat) :=
  if k = 0 then nLg (lfl T n p) else match hgd T (if kBits k = 64 then 8 else 4) n p with
  | .inl f => .inl f
  | .inr (u, q) => if k = 11 then (if cnI (S 25 t) (w32 (u : Int)) (S 3 t 0).toNat 0 < 0 then .inl (4, (p : Int)) else .inr (w32 (u : Int), q)) else .inr (kCut k (w64 (u : Int)), q)
theorem kb64 (k1 : 0 ≤ k) (k2 : k ≤ 12) : kBits k = 64 ↔ (5 ≤ k ∧ k ≤ 8) := sorry
theorem hgd4 {u q : Nat} (h : hgd T 4 n p = .inr (u, q)) (hT : ∀ k, k < n → 0 ≤ T k ∧ T k < 256) : q = p + 4 ∧ p + 4 ≤ n ∧ u < 4294967296 ∧ w64 (u : Int) = u := sorry
theorem c_high4 (hp : p ≤ n) (c : cIn μ a L n T) (hat : μ 1 26 = p) (he : μ 1 30 = n) : cRd 1 (ab_run wc (d + 2) 407 0 [(2, 1), (0, 4), (3, 0), (3, 0), (3, 0)] [] μ) μ (nLg (hgd T 4 n p)) := sorry
theorem RfG.cal {tag : Nat} {run : ab_R} {f : Flt} {g : Int → ab_M → ab_R} (h : RfG run μ f) : RfG (ab_cal run tag (fun r1 μ1 => some ((4, r1), μ1)) g) μ f := sorry
theorem c_lFlag (hp : p ≤ n) (c : cIn μ a L n T) (hat : μ 1 26 = p) (he : μ 1 30 = n) : cRd 0 (ab_run wc (d + 3) 435 0 [(2, 1), (3, 0), (3, 0), (3, 0)] [] μ) μ (nLg (lfl T n p)) := sorry
theorem c_lNum {A cr ci cb kS b : Nat} {ty : Int} (hm : isM A cr ci cb) (ms : cMS μ A kS b S N) (k1 : 0 ≤ k) (k2 : k ≤ 8 ∨ k = 11) (ht : k = 11 → ty = t ∧ (t : Int) < S 0 0 0 ∧ S 2 t 0 = 0) (hp : p ≤ n) (c : cIn μ a L n T) (hat : μ 1 26 = p) (he : μ 1 30 = n) : cRd 1 (ab_run wc (d + 4) 439 0 [(2, 1), (2, A), (2, (200000 + k)), (0, ty), (3, 0), (3, 0), (3, 0)] [] μ) μ (lnm S k t T n p) := sorry
theorem hgS_add {i : Nat} : ∀ m, hgS T p (i + m) = hgS T p i * 256 ^ m + hgS T (p + i) m := sorry
end Ln
end
section
section Ln
variable {μ μ' μ'' : ab_M} {d a L n p s : Nat} {T : Nat → Int} {k : Int} {S : SF} {N : NF} {t : Nat}
def pgM (μ : ab_M) (q : Nat) (v : Int) : ab_M := ab_up (ab_up (ab_up (ab_up μ 7756 191 0) 7756 192 0) 7756 180 (q : Int)) 7756 181 v
def tRl (run : ab_R) (μ : ab_M) : Flt ⊕ (Int × Nat) → Prop
  | .inl f => FtTd run μ f
  | .inr (v, q) => run = some ((0, 1), pgM μ q v)
theorem FtTd.if0 {run : ab_R} {f : Flt} {g : Int → ab_M → ab_R} (h : FtTd run μ f) (hg : ∀ μ, g 0 μ = some ((0, 0), μ)) : FtTd (ab_cal run 0 (fun r1 μ1 => some ((4, r1), μ1)) g) μ f := sorry
theorem tw_wrongT {x y : Int} {g : Int → ab_M → ab_R} (h : μ 7756 17 = 0) (hg : ∀ μ, g 0 μ = some ((0, 0), μ)) : FtTd (ab_cal (ab_run wt (d + 1) 340 0 [(2, 7756), (0, x), (0, y)] [] μ) 0 (fun r1 μ1 => some ((4, r1), μ1)) g) μ (x, y) := sorry
theorem tw_plainN {ty : Int} (ts : TS μ s S N) (k1 : 0 ≤ k) (k2 : k ≤ 8 ∨ k = 11) (ht : k = 11 → ty = ((30 * s + t : Nat) : Int) ∧ (t : Int) < S 0 0 0 ∧ S 2 t 0 = 0) (hp : p ≤ n) (c : tIn μ n T) (hat : μ 7756 180 = p) (hw : μ 7756 17 = 0) (he : μ 7756 179 = n) : tRl (ab_run wt (d + 3) 211 0 [(2, 7756), (0, k), (0, ty), (3, 0), (3, 0), (3, 0)] [] μ) μ (lnm S k t T n p) := sorry
end Ln
end
section
section Lb
variable {μ μ' μ'' : ab_M} {d a L n p s q : Nat} {T : Nat → Int} {k : Int} {S : SF} {N : NF} {t : Nat}
def pdN (u : Nat) : Nat := (4 - u % 4) % 4
def pdR (T : Nat → Int) (n : Nat) : Nat → Nat → Flt ⊕ Nat
  | 0, p => .inr p
  | w + 1, p => if p = n then .inl (1, (n : Int)) else if T p = 0 then pdR T n w (p + 1) else .inl (3, (p : Int))
def lbt (k : Int) (T : Nat → Int) (n p : Nat) : Flt ⊕ (Nat × Nat × Nat) := match hgd T 4 n p with
  | .inl f => .inl f
  | .inr (u, q) => if n < q + u then .inl (1, (n : Int)) else if k = 9 ∧ utf (slc T q u) = false then .inl (5, (q : Int)) else match pdR T n (pdN u) (q + u) with
    | .inl f => .inl f
    | .inr q' => .inr (u, q, q')
theorem pdR_ok : ∀ (w p : Nat) {q : Nat}, pdR T n w p = .inr q → p ≤ n → q = p + w ∧ q ≤ n := sorry
theorem lbt_ok {u q q' : Nat} (h : lbt k T n p = .inr (u, q, q')) (hT : ∀ k, k < n → 0 ≤ T k ∧ T k < 256) : q = p + 4 ∧ q + u ≤ q' ∧ q' ≤ n ∧ ¬ (k = 9 ∧ utf (slc T q u) = false) := sorry
def frLc (μ μ' : ab_M) : Prop := ∀ a i, (a ≠ 1 ∨ i ≠ 26 ∧ i ≠ 27 ∧ i ≠ 28 ∧ i ≠ 31 ∧ i ≠ 32 ∧ i ≠ 33) → a ≠ 2 → μ' a i = μ a i
theorem frLc.refl : frLc μ μ := sorry
theorem frLc.trans (f : frLc μ μ') (g : frLc μ' μ'') : frLc μ μ'' := sorry
theorem frLc.at {x : Int} : frLc μ (ab_up μ 1 26 x) := sorry
def RfL (run : ab_R) (μ : ab_M) (f : Flt) : Prop := RT run (fun μ' => μ' 2 6 = f.1 ∧ μ' 2 7 = f.2 ∧ frLc μ μ')
theorem RfL.to {run : ab_R} {f : Flt} (g : RfL run μ' f) (q : frLc μ μ') : RfL run μ f := sorry
theorem c_refuseL {x y : Int} : RfL (ab_cal (ab_run wc (d + 1) 497 0 [(2, 1), (0, x), (0, y)] [] μ) 2 (fun r4 μ4 => some ((4, r4), μ4)) (fun r4 μ4 => (cond (wc_ob (r4).toNat 2) (some ((4, r4), μ4)) none))) μ (x, y) := sorry
theorem RfL.cal {tag : Nat} {run : ab_R} {f : Flt} {g : Int → ab_M → ab_R} (h : RfL run μ f) : RfL (ab_cal run tag (fun r1 μ1 => some ((4, r1), μ1)) g) μ f := sorry
theorem tm4 {u : Nat} : Int.tmod (u : Int) 4 = ((u % 4 : Nat) : Int) := sorry
theorem c_pad77 (hn : n < 60000) : ∀ (w u p : Nat) (μ : ab_M), w = pdN u → u + w < 100000 → p ≤ n → cIn μ a L n T → μ 1 26 = p → μ 1 30 = n → (∀ f, pdR T n w p = .inl f → RfL (ab_run wc (d + 2) 433 77 [(2, 1), (3, 0), (3, 0), (3, 0), (0, u)] [] μ) μ f) ∧ ∀ q, pdR T n w p = .inr q → (ab_run wc (d + 2) 433 77 [(2, 1), (3, 0), (3, 0), (3, 0), (0, u)] [] μ) = some ((3, 0), ab_up μ 1 26 q) := sorry
theorem frG.lc (f : frG μ μ') : frLc μ μ' := sorry
theorem c_lBytes (hp : p ≤ n) (c : cIn μ a L n T) (hL : L < 100000) (hat : μ 1 26 = p) (he : μ 1 30 = n) :
    (∀ f, lbt k T n p = .inl f → RfL (ab_run wc (d + 3) 433 0 [(2, 1), (2, (200000 + k)), (3, 0), (3, 0), (3, 0)] [] μ) μ f) ∧ ∀ u q q', lbt k T n p = .inr (u, q, q') → ∃ μ', (ab_run wc (d + 3) 433 0 [(2, 1), (2, (200000 + k)), (3, 0), (3, 0), (3, 0)] [] μ) = some ((3, 0), μ') ∧ μ' 1 26 = q' ∧ μ' 1 31 = q ∧ μ' 1 32 = u ∧ μ' 1 33 = μ 1 33 ∧ frLc μ μ' := sorry
end Lb
end
section
section Te
variable {μ μ' μ'' : ab_M} {d : Nat} {S : SF} {N : NF} {m s n : Nat} {h h' : He} {al al' : Nat → Bool} {ε ε' : Nat → Nat} {uM pM r j e p q lv lv' : Nat} {X : RsvT} {F : Nat → Prop} {D : Nat → Nat} {v k : Int} {l : List Int} {T : Nat → Int}
theorem tw_pd71 {u f : Nat} (hq : q + u ≤ n) (hp : pM + u ≤ 9000) : ∀ (w i : Nat) (μ : ab_M), i + w = u → tIn μ n T → μ 7756 180 = q → μ 7868 12 = ((pM + i : Nat) : Int) → ∃ μ', (ab_run wt (d + 2) 196 71 [(2, 7756), (0, k), (0, u), (0, f), (0, 12), (0, i), (3, 0)] [] μ) = (ab_run wt (d + 2) 196 71 [(2, 7756), (0, k), (0, u), (0, f), (0, 12), (0, u), (3, 0)] [] μ') ∧ μ' 7868 12 = ((pM + u : Nat) : Int) ∧ (∀ y, i ≤ y → y < u → μ' 7879 (9000 * 12 + pM + y) = T (q + y)) ∧ ∀ a y, (a ≠ 7879 ∨ y < 9000 * 12 + pM + i ∨ 9000 * 12 + pM + u ≤ y) → (a ≠ 7868 ∨ y ≠ 12) → μ' a y = μ a y := sorry
theorem tw_pd155 (hn : n < 60000) : ∀ (w u p : Nat) (μ : ab_M), w = pdN u → u + w < 100000 → p ≤ n → tIn μ n T → μ 7756 180 = p → μ 7756 179 = n → μ 7756 17 = 0 → (∀ f, pdR T n w p = .inl f → FtTd (ab_run wt (d + 2) 196 155 [(2, 7756), (3, 0), (3, 0), (3, 0), (3, 0), (3, 0), (0, u)] [] μ) μ f) ∧ ∀ q, pdR T n w p = .inr q → (ab_run wt (d + 2) 196 155 [(2, 7756), (3, 0), (3, 0), (3, 0), (3, 0), (3, 0), (0, u)] [] μ) = some ((0, 1), ab_up (ab_up μ 7756 180 q) 7756 181 0) := sorry
theorem tw_padded (x : TSe X F S N T n s μ p h al ε uM pM) (he : μ 7756 179 = n) (hr : r < h.1) (ha : al r = true) (hp : p ≤ n) (hu : pM + (n - p) ≤ 8800) :
    (∀ f, lbt k T n p = .inl f → FtTd (ab_run wt (d + 4) 196 0 [(2, 7756), (0, k), (3, 0), (3, 0), (3, 0), (3, 0), (3, 0)] [] μ) μ f) ∧ ∀ u q q', lbt k T n p = .inr (u, q, q') → ∃ μ', (ab_run wt (d + 4) 196 0 [(2, 7756), (0, k), (3, 0), (3, 0), (3, 0), (3, 0), (3, 0)] [] μ) = some ((0, 1), μ') ∧ μ' 7756 191 = pM ∧ μ' 7756 192 = u ∧ μ' 7756 181 = 0 ∧ tBy μ' 7879 (9000 * 12 + pM) (slc T q u) ∧ TSe X F S N T n s μ' q' h al ε uM (pM + u) ∧ (∀ a i, (a ≠ 7756 ∨ i ≠ 180 ∧ i ≠ 181 ∧ i ≠ 191 ∧ i ≠ 192) → (a ≠ 7879 ∨ i < 9000 * 12 + pM ∨ 9000 * 12 + 9000 ≤ i) → (a ≠ 7868 ∨ i ≠ 12) → μ' a i = μ a i) := sorry
end Te
end
section
section Ld
abbrev Rl := Nat → Nat → Nat → Nat → Sg → Flt ⊕ (Nat × Nat × Sg)
noncomputable def lvR (S : SF) (k : Int) (t : Nat) (T : Nat → Int) (n p : Nat) : Flt ⊕ (Int × List Int × Nat) := if k = 9 ∨ k = 10 then (match lbt k T n p with
    | .inl f => .inl f
    | .inr (u, q, q') => .inr (0, slc T q u, q'))
  else match lnm S k t T n p with
    | .inl f => .inl f
    | .inr (v, q) => .inr (v, [], q)
noncomputable def hIr (S : SF) (h : He) (r j : Nat) (key : Int × List Int) : He := if S 11 (h.2.1 r) j = 3 then hPair S (hOrp h (S 13 (h.2.1 r) j).toNat) r j (key.1, key.2, 0, [], h.1) else hRec S h r j (0, [])
noncomputable def hIs (S : SF) (N : NF) (h : He) (r j : Nat) (key : Int × List Int) (v : Int) (l : List Int) : He := if S 11 (h.2.1 r) j = 3 then hPair S h r j (key.1, key.2, v, l, 0) else hSet S N h r j (0, []) v l
noncomputable def lIv (S : SF) (N : NF) (T : Nat → Int) (n : Nat) (rec : Rl) (r j dp : Nat) (key : Int × List Int) (p L : Nat) (σ : Sg) : Flt ⊕ (Nat × Nat × Sg) :=
  if S 12 (σ.1.2.1 r) j = 12 then (if dp = 12 then .inl (6, (p : Int)) else rec σ.1.1 (dp + 1) p L (hIr S σ.1 r j key, σ.2.1 + 2, σ.2.2 + key.2.length))
  else match lvR S (S 12 (σ.1.2.1 r) j) (S 13 (σ.1.2.1 r) j).toNat T n p with
    | .inl g => .inl g
    | .inr (v, l, q) => .inr (q, L, (hIs S N σ.1 r j key v l, σ.2.1 + 2, σ.2.2 + key.2.length + l.length))
def lsC (k : Int) (last : Option (Int × List Int)) (v : Int) (l : List Int) : Int := match last with
  | none => -1
  | some x => kyC k (x.1, x.2, 0, [], 0) v l
noncomputable def lIm (S : SF) (N : NF) (T : Nat → Int) (n : Nat) (rec : Rl) (r j dp : Nat) : Nat → Option (Int × List Int) → Nat → Nat → Sg → Flt ⊕ (Nat × Nat × Sg)
  | 0, _, p, L, σ => .inr (p, L, σ)
  | c + 1, last, p, L, σ => if 4400 < σ.2.1 + 2 ∨ 8800 < σ.2.2 + (n - p) then .inl ovr else
    if S 11 (σ.1.2.1 r) j = 3 then (match lvR S (S 14 (σ.1.2.1 r) j) 0 T n p with
      | .inl g => .inl g
      | .inr (v, l, q) => if 0 ≤ lsC (S 14 (σ.1.2.1 r) j) last v l then .inl (9, (p : Int)) else if kDp (S 14 (σ.1.2.1 r) j) v l (σ.1.2.2.1 r j) ≠ [] then .inl ovr else match lIv S N T n rec r j dp (v, l) q L σ with
        | .inl g => .inl g
        | .inr (q', L', σ') => lIm S N T n rec r j dp c (some (v, l)) q' L' σ')
    else match lIv S N T n rec r j dp (0, []) p L σ with
      | .inl g => .inl g
      | .inr (q', L', σ') => lIm S N T n rec r j dp c none q' L' σ'
noncomputable def lVl (S : SF) (N : NF) (T : Nat → Int) (n : Nat) (rec : Rl) (r dp j p L : Nat) (σ : Sg) : Flt ⊕ (Nat × Nat × Sg) :=
  if S 12 (σ.1.2.1 r) j = 12 then (if dp = 12 then .inl (6, (p : Int)) else rec (hEnt S σ.1 r j).2 (dp + 1) p L ((hEnt S σ.1 r j).1, σ.2.1 + 2, σ.2.2))
  else match lvR S (S 12 (σ.1.2.1 r) j) (S 13 (σ.1.2.1 r) j).toNat T n p with
    | .inl g => .inl g
    | .inr (v, l, q) => .inr (q, L, (hSet S N σ.1 r j (0, []) v l, σ.2.1 + 2, σ.2.2 + l.length))
noncomputable def lOn (S : SF) (N : NF) (T : Nat → Int) (n : Nat) (rec : Rl) (r dp : Nat) (o : Int) (p L : Nat) (σ : Sg) : Flt ⊕ (Nat × Nat × Sg) := match hgd T 4 n p with
  | .inl g => .inl g
  | .inr (u, q) => if u = 0 then .inr (q, L, σ) else if fNo (S 10 (σ.1.2.1 r)) u (fCt S (σ.1.2.1 r)) 0 < 0 ∨ S 15 (σ.1.2.1 r) (fNo (S 10 (σ.1.2.1 r)) u (fCt S (σ.1.2.1 r)) 0).toNat ≠ o then .inl (8, (p : Int)) else lVl S N T n rec r dp (fNo (S 10 (σ.1.2.1 r)) u (fCt S (σ.1.2.1 r)) 0).toNat q L σ
noncomputable def lFl (S : SF) (N : NF) (T : Nat → Int) (n : Nat) (rec : Rl) (r dp j p L : Nat) (σ : Sg) : Flt ⊕ (Nat × Nat × Sg) :=
  if 4400 < σ.2.1 + 2 ∨ 8800 < σ.2.2 + (n - p) then .inl ovr
  else if 0 ≤ S 15 (σ.1.2.1 r) j then (if 0 < j ∧ S 15 (σ.1.2.1 r) (j - 1) = S 15 (σ.1.2.1 r) j then .inr (p, L, σ) else lOn S N T n rec r dp (S 15 (σ.1.2.1 r) j) p L σ)
  else if 2 ≤ S 11 (σ.1.2.1 r) j then (match hgd T 4 n p with
    | .inl g => .inl g
    | .inr (u, q) => if 400 < L + u then .inl (7, (p : Int)) else lIm S N T n rec r j dp u none q (L + u) σ)
  else if S 11 (σ.1.2.1 r) j = 0 ∧ S 12 (σ.1.2.1 r) j ≠ 12 then lVl S N T n rec r dp j p L σ
  else match lfl T n p with
    | .inl g => .inl g
    | .inr (u, q) => if u = 0 then .inr (q, L, σ) else lVl S N T n rec r dp j q L σ
noncomputable def lFs (S : SF) (N : NF) (T : Nat → Int) (n : Nat) (rec : Rl) (r dp : Nat) : Nat → Nat → Nat → Nat → Sg → Flt ⊕ (Nat × Nat × Sg)
  | 0, _, p, L, σ => .inr (p, L, σ)
  | w + 1, j, p, L, σ => match lFl S N T n rec r dp j p L σ with
    | .inl g => .inl g
    | .inr (p', L', σ') => lFs S N T n rec r dp w (j + 1) p' L' σ'
noncomputable def lRec (S : SF) (N : NF) (T : Nat → Int) (n : Nat) : Nat → Rl
  | 0 => fun _ _ _ _ _ => .inl ovr
  | c + 1 => fun r dp p L σ => lFs S N T n (lRec S N T n c) r dp (fCt S (σ.1.2.1 r)) 0 p L σ
noncomputable def lDc (S : SF) (N : NF) (T : Nat → Int) (n t : Nat) : Flt ⊕ He := match lRec S N T n 12 0 1 0 0 (hNew t, 0, 0) with
  | .inl g => .inl g
  | .inr (p, _, σ) => if p = n then .inr σ.1 else .inl (10, (p : Int))
variable {S : SF} {N : NF} {h h' h'' : He} {D D' D'' : Nat → Nat} {r j e p n : Nat} {T : Nat → Int} {k : Int}
theorem lfl_ok {u q : Nat} (h : lfl T n p = .inr (u, q)) (hT : ∀ k, k < n → 0 ≤ T k ∧ T k < 256) : q = p + 4 ∧ q ≤ n ∧ u ≤ 1 := sorry
theorem lnm_ok {t : Nat} {v : Int} {q : Nat} (w : lnm S k t T n p = .inr (v, q)) (hT : ∀ k, k < n → 0 ≤ T k ∧ T k < 256) : lng v ∧ p + 4 ≤ q ∧ q ≤ n := sorry
theorem lvR_ok {t : Nat} {v : Int} {l : List Int} {q : Nat} (w : lvR S k t T n p = .inr (v, l, q)) (hT : ∀ k, k < n → 0 ≤ T k ∧ T k < 256) : (lng v ∧ byt l) ∧ (p + 4 ≤ q ∧ q ≤ n ∧ p + l.length ≤ q) ∧ (k ≠ 9 → k ≠ 10 → l = []) ∧ (k = 9 ∨ k = 10 → v = 0) := sorry
def RlK (S : SF) (n : Nat) (rec : Rl) : Prop := ∀ (r dp p L : Nat) (σ : Sg) (p' L' : Nat) (σ' : Sg) (D : Nat → Nat), rec r dp p L σ = .inr (p', L', σ') → hIn S σ.1 D → r < σ.1.1 → D r = dp → p ≤ n → L ≤ 400 → (p ≤ p' ∧ p' ≤ n) ∧ (L ≤ L' ∧ L' ≤ 400) ∧ ∃ D', rdQ S r σ σ' D D'
theorem hIr_K {key : Int × List Int} (i : hIn S h D) (ok : scOK S N) (hr : r < h.1) (hj : j < fCt S (h.2.1 r)) (h12 : S 12 (h.2.1 r) j = 12) (hd : D r + 1 ≤ 12) (hk : S 11 (h.2.1 r) j = 3 → (lng key.1 ∧ byt key.2) ∧ (S 14 (h.2.1 r) j ≠ 9 → key.2 = []) ∧ (S 14 (h.2.1 r) j = 9 → key.1 = 0)) :
    hIn S (hIr S h r j key) (upL D h.1 (D r + 1)) ∧ hKp r h (hIr S h r j key) ∧ (hIr S h r j key).1 = h.1 + 1 ∧ (hIr S h r j key).2.1 = upT h.2.1 h.1 (S 13 (h.2.1 r) j).toNat := sorry
theorem hIs_K {key : Int × List Int} {v : Int} {l : List Int} (i : hIn S h D) (ok : scOK S N) (hr : r < h.1) (hj : j < fCt S (h.2.1 r)) (h12 : S 12 (h.2.1 r) j ≠ 12) (hk : S 11 (h.2.1 r) j = 3 → (lng key.1 ∧ byt key.2) ∧ (S 14 (h.2.1 r) j ≠ 9 → key.2 = []) ∧ (S 14 (h.2.1 r) j = 9 → key.1 = 0)) (hv : (lng v ∧ byt l) ∧ (S 12 (h.2.1 r) j ≠ 9 → S 12 (h.2.1 r) j ≠ 10 → l = []) ∧ (S 12 (h.2.1 r) j = 9 ∨ S 12 (h.2.1 r) j = 10 → v = 0)) :
    hIn S (hIs S N h r j key v l) D ∧ hKp r h (hIs S N h r j key v l) ∧ (hIs S N h r j key v l).1 = h.1 ∧ (hIs S N h r j key v l).2.1 = h.2.1 := sorry
theorem lIv_K {rec : Rl} (hk : RlK S n rec) (ok : scOK S N) (hT : ∀ k, k < n → 0 ≤ T k ∧ T k < 256) {dp L p' L' : Nat} {key : Int × List Int} {σ σ' : Sg} (e1 : lIv S N T n rec r j dp key p L σ = .inr (p', L', σ')) (i : hIn S σ.1 D) (hr : r < σ.1.1) (hj : j < fCt S (σ.1.2.1 r)) (hd : D r = dp) (hp : p ≤ n) (hL : L ≤ 400) (z4 : σ.2.1 + 2 ≤ 4400) (z8 : σ.2.2 + key.2.length + (n - p) ≤ 8800) (kk : S 11 (σ.1.2.1 r) j = 3 → (lng key.1 ∧ byt key.2) ∧ (S 14 (σ.1.2.1 r) j ≠ 9 → key.2 = []) ∧ (S 14 (σ.1.2.1 r) j = 9 → key.1 = 0)) :
    (p ≤ p' ∧ p' ≤ n) ∧ (L ≤ L' ∧ L' ≤ 400) ∧ ∃ D', rdQ S r σ σ' D D' := sorry
theorem lIm_K {rec : Rl} (hk : RlK S n rec) (ok : scOK S N) (hT : ∀ k, k < n → 0 ≤ T k ∧ T k < 256) {dp : Nat} : ∀ (c : Nat) (last : Option (Int × List Int)) (p L : Nat) (σ : Sg) (p' L' : Nat) (σ' : Sg) (D : Nat → Nat), lIm S N T n rec r j dp c last p L σ = .inr (p', L', σ') → hIn S σ.1 D → r < σ.1.1 → j < fCt S (σ.1.2.1 r) → D r = dp → p ≤ n → L ≤ 400 → (p ≤ p' ∧ p' ≤ n) ∧ (L ≤ L' ∧ L' ≤ 400) ∧ ∃ D', rdQ S r σ σ' D D' := sorry
theorem lVl_K {rec : Rl} (hk : RlK S n rec) (ok : scOK S N) (hT : ∀ k, k < n → 0 ≤ T k ∧ T k < 256) {dp L p' L' : Nat} {σ σ' : Sg} (e1 : lVl S N T n rec r dp j p L σ = .inr (p', L', σ')) (i : hIn S σ.1 D) (hr : r < σ.1.1) (hj : j < fCt S (σ.1.2.1 r)) (m2 : S 11 (σ.1.2.1 r) j < 2) (hd : D r = dp) (hp : p ≤ n) (hL : L ≤ 400) (z4 : σ.2.1 + 2 ≤ 4400) (z8 : σ.2.2 + (n - p) ≤ 8800) :
    (p ≤ p' ∧ p' ≤ n) ∧ (L ≤ L' ∧ L' ≤ 400) ∧ ∃ D', rdQ S r σ σ' D D' := sorry
theorem lFl_K {rec : Rl} (hk : RlK S n rec) (ok : scOK S N) (hT : ∀ k, k < n → 0 ≤ T k ∧ T k < 256) {dp L p' L' : Nat} {σ σ' : Sg} (e1 : lFl S N T n rec r dp j p L σ = .inr (p', L', σ')) (i : hIn S σ.1 D) (hr : r < σ.1.1) (hj : j < fCt S (σ.1.2.1 r)) (hd : D r = dp) (hp : p ≤ n) (hL : L ≤ 400) :
    (p ≤ p' ∧ p' ≤ n) ∧ (L ≤ L' ∧ L' ≤ 400) ∧ ∃ D', rdQ S r σ σ' D D' := sorry
theorem lFs_K {rec : Rl} (hk : RlK S n rec) (ok : scOK S N) (hT : ∀ k, k < n → 0 ≤ T k ∧ T k < 256) {dp : Nat} : ∀ (w j p L : Nat) (σ : Sg) (p' L' : Nat) (σ' : Sg) (D : Nat → Nat), lFs S N T n rec r dp w j p L σ = .inr (p', L', σ') → hIn S σ.1 D → r < σ.1.1 → j + w = fCt S (σ.1.2.1 r) → D r = dp → p ≤ n → L ≤ 400 → (p ≤ p' ∧ p' ≤ n) ∧ (L ≤ L' ∧ L' ≤ 400) ∧ ∃ D', rdQ S r σ σ' D D' := sorry
theorem lRec_K (ok : scOK S N) (hT : ∀ k, k < n → 0 ≤ T k ∧ T k < 256) : ∀ c, RlK S n (lRec S N T n c) := sorry
end Ld
end
section
section Lo
variable {S : SF} {N : NF} {h h' : He} {D D' D'' : Nat → Nat} {r j e p n : Nat} {T : Nat → Int} {k : Int}
def onOK (S : SF) : Prop := ∀ t j j' j'' : Nat, (t : Int) < S 0 0 0 → S 2 t 0 = 1 → j ≤ j' → j' ≤ j'' → j'' < fCt S t → 0 ≤ S 15 t j → S 15 t j'' = S 15 t j → S 15 t j' = S 15 t j
theorem hgd_f {w : Nat} {g : Flt} (h : hgd T w n p = .inl g) : fOk g := sorry
theorem lfl_f {g : Flt} (h : lfl T n p = .inl g) : fOk g := sorry
theorem lnm_f {t : Nat} {g : Flt} (h : lnm S k t T n p = .inl g) : fOk g := sorry
theorem pdR_f {g : Flt} : ∀ (w p : Nat), pdR T n w p = .inl g → fOk g := sorry
theorem lvR_f {t : Nat} {g : Flt} (h : lvR S k t T n p = .inl g) : fOk g := sorry
def lE (S : SF) (h : He) (r j : Nat) : Prop := ∀ j', j ≤ j' → j' < fCt S (h.2.1 r) → (0 < j → S 15 (h.2.1 r) j' < 0 ∨ S 15 (h.2.1 r) (j - 1) ≠ S 15 (h.2.1 r) j') → h.2.2.1 r j' = []
def RlN (S : SF) (n : Nat) (c : Nat) (rec : Rl) : Prop := ∀ (r dp p L : Nat) (σ : Sg) (D : Nat → Nat), hIn S σ.1 D → r < σ.1.1 → D r = dp → dp + c = 13 → p ≤ n → L ≤ 400 → lE S σ.1 r 0 → 2 * σ.2.1 + 4 * (400 - L) + (n - p) ≤ 8000 → σ.2.2 ≤ p → (∀ g, rec r dp p L σ = .inl g → fOk g) ∧ ∀ p' L' σ', rec r dp p L σ = .inr (p', L', σ') → 2 * σ'.2.1 + 4 * (400 - L') + (n - p') ≤ 2 * σ.2.1 + 4 * (400 - L) + (n - p) ∧ σ'.2.2 + p ≤ σ.2.2 + p'
theorem kPt_end {t : It} {L : List It} (h : kDp k t.1 t.2.1 L = []) : kPt k t L = L ++ [t] := sorry
theorem hIr_V {key : Int × List Int} (hr : r < h.1) (m2 : 2 ≤ S 11 (h.2.1 r) j ∧ S 11 (h.2.1 r) j ≤ 3) (hk : S 11 (h.2.1 r) j = 3 → kDp (S 14 (h.2.1 r) j) key.1 key.2 (h.2.2.1 r j) = []) :
    (∀ j', j' ≠ j → (hIr S h r j key).2.2.1 r j' = h.2.2.1 r j') ∧ (∃ t : It, (hIr S h r j key).2.2.1 r j = h.2.2.1 r j ++ [t] ∧ (S 11 (h.2.1 r) j = 3 → t.1 = key.1 ∧ t.2.1 = key.2)) ∧ ∀ j', (hIr S h r j key).2.2.1 h.1 j' = [] := sorry
theorem hIs_V {key : Int × List Int} {v : Int} {l : List Int} (m2 : 2 ≤ S 11 (h.2.1 r) j ∧ S 11 (h.2.1 r) j ≤ 3) (hk : S 11 (h.2.1 r) j = 3 → kDp (S 14 (h.2.1 r) j) key.1 key.2 (h.2.2.1 r j) = []) :
    (∀ j', j' ≠ j → (hIs S N h r j key v l).2.2.1 r j' = h.2.2.1 r j') ∧ (∃ t : It, (hIs S N h r j key v l).2.2.1 r j = h.2.2.1 r j ++ [t] ∧ (S 11 (h.2.1 r) j = 3 → t.1 = key.1 ∧ t.2.1 = key.2)) := sorry
theorem lIv_N {rec : Rl} {c : Nat} (hn : RlN S n c rec) (hk : RlK S n rec) (ok : scOK S N) (hT : ∀ k, k < n → 0 ≤ T k ∧ T k < 256) {dp L : Nat} {key : Int × List Int} {σ : Sg} (i : hIn S σ.1 D) (hr : r < σ.1.1) (hj : j < fCt S (σ.1.2.1 r)) (m2 : 2 ≤ S 11 (σ.1.2.1 r) j ∧ S 11 (σ.1.2.1 r) j ≤ 3) (hd : D r = dp) (hc : dp + c = 12) (hp : p ≤ n) (hL : L ≤ 400) (b1 : 2 * σ.2.1 + 4 + 4 * (400 - L) + (n - p) ≤ 8000) (b2 : σ.2.2 + key.2.length ≤ p) (kd : S 11 (σ.1.2.1 r) j = 3 → kDp (S 14 (σ.1.2.1 r) j) key.1 key.2 (σ.1.2.2.1 r j) = [])
    (kk : S 11 (σ.1.2.1 r) j = 3 → (lng key.1 ∧ byt key.2) ∧ (S 14 (σ.1.2.1 r) j ≠ 9 → key.2 = []) ∧ (S 14 (σ.1.2.1 r) j = 9 → key.1 = 0)) :
    (∀ g, lIv S N T n rec r j dp key p L σ = .inl g → fOk g) ∧ ∀ p' L' σ', lIv S N T n rec r j dp key p L σ = .inr (p', L', σ') → 2 * σ'.2.1 + 4 * (400 - L') + (n - p') ≤ 2 * σ.2.1 + 4 + 4 * (400 - L) + (n - p) ∧ σ'.2.2 + p ≤ σ.2.2 + key.2.length + p' ∧ (∀ j', j' ≠ j → σ'.1.2.2.1 r j' = σ.1.2.2.1 r j') ∧ ∃ t : It, σ'.1.2.2.1 r j = σ.1.2.2.1 r j ++ [t] ∧ (S 11 (σ.1.2.1 r) j = 3 → t.1 = key.1 ∧ t.2.1 = key.2) := sorry
end Lo
end
section
section Lo
variable {S : SF} {N : NF} {h h' : He} {D D' D'' : Nat → Nat} {r j e p n : Nat} {T : Nat → Int} {k : Int}
theorem kDp_nil {v : Int} {l : List Int} : ∀ {L : List It}, (∀ t ∈ L, kyC k t v l < 0) → kDp k v l L = [] := sorry
def lLs (S : SF) (h : He) (r j : Nat) (last : Option (Int × List Int)) : Prop := match last with
  | none => h.2.2.1 r j = []
  | some x => ∃ B y, h.2.2.1 r j = B ++ [y] ∧ y.1 = x.1 ∧ y.2.1 = x.2
theorem lLs.kd {last : Option (Int × List Int)} {v : Int} {l : List Int} (w : lLs S h r j last) (sr : srt k (h.2.2.1 r j)) (lt : ¬ 0 ≤ lsC k last v l) : kDp k v l (h.2.2.1 r j) = [] := sorry
theorem lIm_N {rec : Rl} {c : Nat} (hn : RlN S n c rec) (hk : RlK S n rec) (ok : scOK S N) (hT : ∀ k, k < n → 0 ≤ T k ∧ T k < 256) (n4 : n ≤ 4000) {dp : Nat} (hc : dp + c = 12) : ∀ (m : Nat) (last : Option (Int × List Int)) (p L : Nat) (σ : Sg) (D : Nat → Nat), hIn S σ.1 D → r < σ.1.1 → j < fCt S (σ.1.2.1 r) → (2 ≤ S 11 (σ.1.2.1 r) j ∧ S 11 (σ.1.2.1 r) j ≤ 3) → D r = dp → p ≤ n → L ≤ 400 → 2 * σ.2.1 + 4 * m + 4 * (400 - L) + (n - p) ≤ 8000 → σ.2.2 ≤ p → (S 11 (σ.1.2.1 r) j = 3 → lLs S σ.1 r j last) →
    (∀ g, lIm S N T n rec r j dp m last p L σ = .inl g → fOk g) ∧ ∀ p' L' σ', lIm S N T n rec r j dp m last p L σ = .inr (p', L', σ') → 2 * σ'.2.1 + 4 * (400 - L') + (n - p') ≤ 2 * σ.2.1 + 4 * m + 4 * (400 - L) + (n - p) ∧ σ'.2.2 + p ≤ σ.2.2 + p' ∧ ∀ j', j' ≠ j → σ'.1.2.2.1 r j' = σ.1.2.2.1 r j' := sorry
theorem lVl_N {rec : Rl} {c : Nat} (hn : RlN S n c rec) (hk : RlK S n rec) (ok : scOK S N) (hT : ∀ k, k < n → 0 ≤ T k ∧ T k < 256) {dp L : Nat} {σ : Sg} (i : hIn S σ.1 D) (hr : r < σ.1.1) (hj : j < fCt S (σ.1.2.1 r)) (m2 : S 11 (σ.1.2.1 r) j < 2) (hv : σ.1.2.2.1 r j = []) (hd : D r = dp) (hc : dp + c = 12) (hp : p ≤ n) (hL : L ≤ 400) (b1 : S 12 (σ.1.2.1 r) j = 12 → 2 * σ.2.1 + 4 + 4 * (400 - L) + (n - p) ≤ 8000) (b2 : σ.2.2 ≤ p) :
    (∀ g, lVl S N T n rec r dp j p L σ = .inl g → fOk g) ∧ ∀ p' L' σ', lVl S N T n rec r dp j p L σ = .inr (p', L', σ') → 2 * σ'.2.1 + 4 * (400 - L') + (n - p') ≤ 2 * σ.2.1 + 4 + 4 * (400 - L) + (n - p) ∧ (S 12 (σ.1.2.1 r) j ≠ 12 → p + 4 ≤ p') ∧ σ'.2.2 + p ≤ σ.2.2 + p' ∧ ∀ j', j' ≠ j → σ.1.2.2.1 r j' = [] → σ'.1.2.2.1 r j' = [] := sorry
theorem lOn_N {rec : Rl} {c : Nat} (hn : RlN S n c rec) (hk : RlK S n rec) (ok : scOK S N) (hT : ∀ k, k < n → 0 ≤ T k ∧ T k < 256) {dp L : Nat} {σ : Sg} (i : hIn S σ.1 D) (hr : r < σ.1.1) (o : 0 ≤ S 15 (σ.1.2.1 r) j) (hv : ∀ J, J < fCt S (σ.1.2.1 r) → S 15 (σ.1.2.1 r) J = S 15 (σ.1.2.1 r) j → σ.1.2.2.1 r J = []) (hd : D r = dp) (hc : dp + c = 12) (hp : p ≤ n) (hL : L ≤ 400) (b1 : 2 * σ.2.1 + 4 * (400 - L) + (n - p) ≤ 8000) (b2 : σ.2.2 ≤ p) :
    (∀ g, lOn S N T n rec r dp (S 15 (σ.1.2.1 r) j) p L σ = .inl g → fOk g) ∧ ∀ p' L' σ', lOn S N T n rec r dp (S 15 (σ.1.2.1 r) j) p L σ = .inr (p', L', σ') → 2 * σ'.2.1 + 4 * (400 - L') + (n - p') ≤ 2 * σ.2.1 + 4 * (400 - L) + (n - p) ∧ σ'.2.2 + p ≤ σ.2.2 + p' ∧ ∀ j', S 15 (σ.1.2.1 r) j' ≠ S 15 (σ.1.2.1 r) j → σ.1.2.2.1 r j' = [] → σ'.1.2.2.1 r j' = [] := sorry
theorem lFl_N {rec : Rl} {c : Nat} (hn : RlN S n c rec) (hk : RlK S n rec) (ok : scOK S N) (on : onOK S) (hT : ∀ k, k < n → 0 ≤ T k ∧ T k < 256) (n4 : n ≤ 4000) {dp L : Nat} {σ : Sg} (i : hIn S σ.1 D) (hr : r < σ.1.1) (hj : j < fCt S (σ.1.2.1 r)) (hE : lE S σ.1 r j) (hd : D r = dp) (hc : dp + c = 12) (hp : p ≤ n) (hL : L ≤ 400) (b1 : 2 * σ.2.1 + 4 * (400 - L) + (n - p) ≤ 8000) (b2 : σ.2.2 ≤ p) :
    (∀ g, lFl S N T n rec r dp j p L σ = .inl g → fOk g) ∧ ∀ p' L' σ', lFl S N T n rec r dp j p L σ = .inr (p', L', σ') → 2 * σ'.2.1 + 4 * (400 - L') + (n - p') ≤ 2 * σ.2.1 + 4 * (400 - L) + (n - p) ∧ σ'.2.2 + p ≤ σ.2.2 + p' ∧ lE S σ'.1 r (j + 1) := sorry
theorem lFs_N {rec : Rl} {c : Nat} (hn : RlN S n c rec) (hk : RlK S n rec) (ok : scOK S N) (on : onOK S) (hT : ∀ k, k < n → 0 ≤ T k ∧ T k < 256) (n4 : n ≤ 4000) {dp : Nat} (hc : dp + c = 12) : ∀ (w j p L : Nat) (σ : Sg) (D : Nat → Nat), hIn S σ.1 D → r < σ.1.1 → j + w = fCt S (σ.1.2.1 r) → lE S σ.1 r j → D r = dp → p ≤ n → L ≤ 400 → 2 * σ.2.1 + 4 * (400 - L) + (n - p) ≤ 8000 → σ.2.2 ≤ p → (∀ g, lFs S N T n rec r dp w j p L σ = .inl g → fOk g) ∧ ∀ p' L' σ', lFs S N T n rec r dp w j p L σ = .inr (p', L', σ') → 2 * σ'.2.1 + 4 * (400 - L') + (n - p') ≤ 2 * σ.2.1 + 4 * (400 - L) + (n - p) ∧ σ'.2.2 + p ≤ σ.2.2 + p' := sorry
theorem lRec_N (ok : scOK S N) (on : onOK S) (hT : ∀ k, k < n → 0 ≤ T k ∧ T k < 256) (n4 : n ≤ 4000) : ∀ c, RlN S n c (lRec S N T n c) := sorry
theorem lRec_no {t : Nat} (ok : scOK S N) (on : onOK S) (hT : ∀ k, k < n → 0 ≤ T k ∧ T k < 256) (n4 : n ≤ 4000) (tO : (t : Int) < S 0 0 0 ∧ S 2 t 0 = 1) : lRec S N T n 12 0 1 0 0 (hNew t, 0, 0) ≠ .inl ovr := sorry
end Lo
end
