set_option maxRecDepth 16384
section
section Yf
variable {T : Nat → Int} {n : Nat} {σ σ' : PS} {μ μ' μ'' μ0 ν ν' ν'' : ab_M} {d : Nat} {c cnt : Nat} {S : List Sp}
def frSp (c : Nat) (ν ν' : ab_M) : Prop := ∀ a i, (a < 7842 ∨ 7852 < a ∨ i < 100 * c ∨ 100 * c + 100 ≤ i) → (a ≠ 7837 ∨ i ≠ c) → (a ≠ 7838 ∨ i ≠ c) → a ≠ 7858 → a ≠ 7859 → (a ≠ 7756 ∨ i ≠ 121 ∧ i ≠ 123 ∧ i ≠ 125 ∧ i ≠ 126) → ν' a i = ν a i
theorem frSp.refl : frSp c ν ν := sorry
theorem frSp.trans (f : frSp c ν ν') (g : frSp c ν' ν'') : frSp c ν ν'' := sorry
theorem frXn.st (f : frXn c ν ν') : frSp c ν ν' := sorry
theorem frSp.z (hc : 160 ≤ c) (f : frSp c ν ν') : frSg ν ν' := sorry
theorem ndS_app {S' : List Sp} : ndS (S ++ S') = ndS S ++ ndS S' := sorry
theorem ndS_one {x : Sp} : ndS [x] = x.2.2 := sorry
theorem tg_210 {kd : Int} {nm : Nm} {ix : Nat} (h : tG μ T n σ ν) (hc : ν 7756 120 = c ∧ 160 ≤ c ∧ c < 200) (hn : ν 7756 121 = cnt ∧ cnt ≤ 100) (hs : ν 7837 c = S.length ∧ S.length ≤ (ndS S).length) (hk : ν 7838 c = (ndS S).length ∧ (ndS S).length = cnt) (nd : ∀ (i : Nat) (x : Nd), (ndS S)[i]? = some x → tNd ν (100 * c + i) x) (st : S.length < 100 → ∀ (i : Nat) (x : Sp), S[i]? = some x → tSp ν (100 * c + i) x (ndS (S.take (i + 1))).length) (hx : ix = 100 * c + (if S.length < 100 then S.length else 99)) (kn : kd = 0 ∨ kd = 1 → tNm (ν 7846 ix) (ν 7847 ix) nm.1 ∧ ν 7845 ix = nm.2.1) :
    tGz (ab_run wt (d + 9) 295 210 [(2, 7756), (0, ix), (0, kd)] [] μ) ν (bnd (spExp T n (spU T n 10) cnt σ) fun p => bnd (spG T n 59 p.2.2) fun σ3 => .inr ((kd, nm, p.1), p.2.1, σ3)) (fun p μ' => ∃ ν', tG μ' T n p.2.2 ν' ∧ tCs ν' c (S ++ [p.1]) p.2.1 ∧ frSp c ν ν' ∧ psO T n p.2.2) := sorry
theorem spHd_pg {p : (Int × Nm) × PS} (hT : ∀ k, k < n → 0 ≤ T k ∧ T k < 256) (o : psO T n σ) (e : spHd T n σ = .inr p) : pgS T n σ p.2 := sorry
theorem tg_step (h : tG μ T n σ ν) (hs : tCs ν c S cnt) : tGz (ab_run wt (d + 9) 295 0 [(2, 7756), (3, 0), (3, 0)] [] μ) ν (spSt T n cnt σ) (fun p μ' => ∃ ν', tG μ' T n p.2.2 ν' ∧ tCs ν' c (S ++ [p.1]) p.2.1 ∧ frSp c ν ν' ∧ psO T n p.2.2) := sorry
end Yf
end
section
section Yg
variable {T : Nat → Int} {n : Nat} {σ σ' : PS} {μ μ' μ'' μ0 ν ν' ν'' : ab_M} {d : Nat} {c cnt : Nat} {S : List Sp}
def pgX (T : Nat → Int) (n : Nat) (U : Nat → PS → Xr) : Prop := ∀ c σ p, psO T n σ → U c σ = .inr p → pgS T n σ p.2.2
theorem pg_opd (hT : ∀ k, k < n → 0 ≤ T k ∧ T k < 256) : pgX T n (spOpd T n) := sorry
theorem pg_lv {r : Nat} {U : Nat → PS → Xr} (hT : ∀ k, k < n → 0 ≤ T k ∧ T k < 256) (h : pgX T n U) : pgX T n (spLv T n r U) := sorry
theorem pg_exp {U : Nat → PS → Xr} (hT : ∀ k, k < n → 0 ≤ T k ∧ T k < 256) (h : pgX T n U) : pgX T n (spExp T n U) := sorry
theorem pg_U (hT : ∀ k, k < n → 0 ≤ T k ∧ T k < 256) : ∀ F : Nat, pgX T n (spU T n F) := sorry
theorem spSt_pg {p : Sp × Nat × PS} (hT : ∀ k, k < n → 0 ≤ T k ∧ T k < 256) (o : psO T n σ) (e : spSt T n cnt σ = .inr p) : pgS T n σ p.2.2 := sorry
theorem tg_267 : ∀ (f : Nat) (μ : ab_M) (σ : PS) (ν : ab_M) (S : List Sp) (cnt : Nat), n < σ.1.2.1 + f → tG μ T n σ ν → tCs ν c S cnt → tGz (ab_run wt (d + 10) 19 267 [(2, 7756)] [] μ) ν (spSts T n f cnt σ) (fun p μ' => ∃ ν', tG μ' T n p.2.2 ν' ∧ tCs ν' c (S ++ p.1) p.2.1 ∧ frSp c ν ν' ∧ σ.1.2.1 ≤ p.2.2.1.2.1) := sorry
def tCl (ν : ab_M) (c : Nat) (x : Cl) : Prop := (tNm (ν 7829 c) (ν 7830 c) x.1.1 ∧ ν 7831 c = x.1.2.1) ∧ (tNm (ν 7839 (2 * c)) (ν 7840 (2 * c)) x.2.1.1 ∧ ν 7841 (2 * c) = x.2.1.2.1) ∧ (tNm (ν 7839 (2 * c + 1)) (ν 7840 (2 * c + 1)) x.2.2.1.1 ∧ ν 7841 (2 * c + 1) = x.2.2.1.2.1) ∧ (ν 7834 c = x.2.2.2.1.1 ∧ ν 7833 c = x.2.2.2.1.2) ∧ (ν 7837 c = x.2.2.2.2.length ∧ x.2.2.2.2.length ≤ (ndS x.2.2.2.2).length) ∧ (ν 7838 c = (ndS x.2.2.2.2).length ∧ (ndS x.2.2.2.2).length ≤ 100) ∧ (∀ (i : Nat) (y : Nd), (ndS x.2.2.2.2)[i]? = some y → tNd ν (100 * c + i) y) ∧ ∀ (i : Nat) (y : Sp), x.2.2.2.2[i]? = some y → tSp ν (100 * c + i) y (ndS (x.2.2.2.2.take (i + 1))).length
theorem tCl.to {x : Cl} (h : tCl ν c x) (f1 : ∀ a, 7829 ≤ a → a ≤ 7838 → ν' a c = ν a c) (f2 : ∀ a i, 7839 ≤ a → a ≤ 7841 → i / 2 = c → ν' a i = ν a i) (f3 : ∀ a i, 7842 ≤ a → a ≤ 7852 → i / 100 = c → ν' a i = ν a i) : tCl ν' c x := sorry
def frCl (c : Nat) (ν ν' : ab_M) : Prop := ∀ a i, (a < 7829 ∨ 7838 < a ∨ i ≠ c) → (a < 7839 ∨ 7841 < a ∨ i / 2 ≠ c) → (a < 7842 ∨ 7852 < a ∨ i / 100 ≠ c) → a ≠ 7858 → a ≠ 7859 → (a ≠ 7756 ∨ i < 120 ∨ 126 < i) → (a ≠ 7822 ∨ i ≠ c / 10) → ν' a i = ν a i
theorem frCl.z (hc : 160 ≤ c) (f : frCl c ν ν') : frSg ν ν' := sorry
theorem frSp.cl (f : frSp c ν ν') : frCl c ν ν' := sorry
theorem tg_callName {k : Nat} (h : tG μ T n σ ν) (hc : ν 7756 120 = c ∧ 160 ≤ c ∧ c < 200) (hk : k < 2) : tGz (ab_run wt (d + 6) 17 0 [(2, 7756), (0, k)] [] μ) ν (spN T n false σ) (fun p μ' => ∃ ν', tG μ' T n p.2 ν' ∧ tNm (ν' 7839 (2 * c + k)) (ν' 7840 (2 * c + k)) p.1.1 ∧ ν' 7841 (2 * c + k) = p.1.2.1 ∧ ∀ a i, (a < 7839 ∨ 7841 < a ∨ i ≠ 2 * c + k) → ν' a i = ν a i) := sorry
theorem tg_call {v j : Nat} (h : tG μ T n σ ν) (hv : ν 7756 119 = v ∧ 16 ≤ v ∧ v < 20) (hj : ν 7822 v = j) (j10 : j ≤ 10) : tGz (ab_run wt (d + 10) 19 0 [(2, 7756)] [] μ) ν (bnd (spW T n 8 σ) fun σ1 => spCall T n j σ1) (fun p μ' => ∃ ν', tG μ' T n p.2 ν' ∧ tCl ν' (10 * v + j) p.1 ∧ frCl (10 * v + j) ν ν' ∧ j < 10 ∧ ν' 7822 v = ((j + 1 : Nat) : Int) ∧ σ.1.2.1 < p.2.1.2.1) := sorry
end Yg
end
section
section Yh
variable {T : Nat → Int} {n : Nat} {σ σ' : PS} {μ μ' μ'' μ0 ν ν' ν'' : ab_M} {d : Nat} {v : Nat}
def tLc0 (ν : ab_M) (l : Nat) (x : Nm) : Prop := tNm (ν 7826 l) (ν 7827 l) x.1 ∧ ν 7828 l = x.2.1
def tSb (ν : ab_M) (v : Nat) (L : List Nm) (C : List Cl) : Prop := (ν 7823 v = L.length ∧ L.length ≤ 8) ∧ (ν 7822 v = C.length ∧ C.length ≤ 10) ∧ (∀ (l : Nat) (x : Nm), L[l]? = some x → tLc0 ν (8 * v + l) x) ∧ ∀ (j : Nat) (x : Cl), C[j]? = some x → tCl ν (10 * v + j) x
def frSb (v : Nat) (ν ν' : ab_M) : Prop := ∀ a i, (a ≠ 7822 ∨ i ≠ v) → (a ≠ 7823 ∨ i ≠ v) → (a < 7826 ∨ 7828 < a ∨ i / 8 ≠ v) → (a < 7829 ∨ 7838 < a ∨ i / 10 ≠ v) → (a < 7839 ∨ 7841 < a ∨ i / 20 ≠ v) → (a < 7842 ∨ 7852 < a ∨ i / 1000 ≠ v) → a ≠ 7858 → a ≠ 7859 → (a ≠ 7756 ∨ i < 120 ∨ 126 < i) → ν' a i = ν a i
theorem frSb.refl : frSb v ν ν := sorry
theorem frSb.trans (f : frSb v ν ν') (g : frSb v ν' ν'') : frSb v ν ν'' := sorry
theorem frSb.z (hv : 16 ≤ v) (f : frSb v ν ν') : frSg ν ν' := sorry
theorem frCl.sb {j : Nat} (hj : j < 10) (f : frCl (10 * v + j) ν ν') : frSb v ν ν' := sorry
theorem frSb.sv (f : frSb v ν ν') : ν' 7756 119 = ν 7756 119 := sorry
theorem spN_from {b : Bool} {p : Nm × PS} (e : spN T n b σ = .inr p) : b = false := sorry
theorem tg_159 (hv : 16 ≤ v ∧ v < 20) : ∀ (f : Nat) (μ : ab_M) (σ : PS) (ν : ab_M) (L : List Nm), n < σ.1.2.1 + f → tG μ T n σ ν → ν 7756 119 = v → tSb ν v L [] → xGo (ab_run wt (d + 11) 281 159 [(2, 7756), (3, 0), (3, 0)] [] μ) ν (spCells T n f L.length σ) (fun p run => ∃ μ' ν', run = (ab_run wt (d + 11) 281 296 [(2, 7756), (3, 0), (3, 0)] [] μ') ∧ tG μ' T n p.2 ν' ∧ tSb ν' v (L ++ p.1) [] ∧ frSb v ν ν' ∧ σ.1.2.1 ≤ p.2.1.2.1) := sorry
theorem tg_296 {L : List Nm} (hv : 16 ≤ v ∧ v < 20) : ∀ (f : Nat) (μ : ab_M) (σ : PS) (ν : ab_M) (C : List Cl), n < σ.1.2.1 + f → tG μ T n σ ν → ν 7756 119 = v → tSb ν v L C → tGz (ab_run wt (d + 11) 281 296 [(2, 7756), (3, 0), (3, 0)] [] μ) ν (spCalls T n f C.length σ) (fun p μ' => ∃ ν', tG μ' T n p.2 ν' ∧ tSb ν' v L (C ++ p.1) ∧ ν' 7825 v = p.2.2.length ∧ ∃ ν1, frSb v ν ν1 ∧ ∀ a i, (a ≠ 7825 ∨ i ≠ v) → ν' a i = ν1 a i) := sorry
def tSd (ν : ab_M) (v : Nat) (x : Sd) : Prop := (tNm (ν 7819 v) (ν 7820 v) x.1.1 ∧ ν 7821 v = x.1.2.1 ∧ ν 7824 v = x.2.1.1 ∧ ν 7825 v = x.2.1.2) ∧ tSb ν v x.2.2.1 x.2.2.2
def frSd2 (v : Nat) (ν ν' : ab_M) : Prop := ∀ a i, (a < 7819 ∨ 7825 < a ∨ i ≠ v) → (a < 7826 ∨ 7828 < a ∨ i / 8 ≠ v) → (a < 7829 ∨ 7838 < a ∨ i / 10 ≠ v) → (a < 7839 ∨ 7841 < a ∨ i / 20 ≠ v) → (a < 7842 ∨ 7852 < a ∨ i / 1000 ≠ v) → a ≠ 7858 → a ≠ 7859 → (a ≠ 7756 ∨ i < 119 ∨ 126 < i) → (a ≠ 7764 ∨ i ≠ 4) → ν' a i = ν a i
theorem tg_service {k : Nat} (h : tG μ T n σ ν) (nz : σ.1.1 ≠ 0) (hk : ν 7764 4 = k) (k4 : k ≤ 4) : tGz (ab_run wt (d + 11) 281 0 [(2, 7756), (3, 0), (3, 0)] [] μ) ν (bnd (spA T n σ) fun σ1 => spSv T n k σ.2.length σ1) (fun p μ' => ∃ ν', tG μ' T n p.2 ν' ∧ tSd ν' (16 + k) p.1 ∧ frSd2 (16 + k) ν ν' ∧ k < 4 ∧ ν' 7764 4 = ((k + 1 : Nat) : Int)) := sorry
end Yh
end
section
section Yi
variable {T : Nat → Int} {n : Nat} {σ σ' : PS} {μ μ' μ'' μ0 ν ν' ν'' : ab_M} {d : Nat}
def tCn (ν : ab_M) (c : Nat) (x : Cn) : Prop := tNm (ν 7813 c) (ν 7814 c) x.1.1 ∧ ν 7815 c = x.1.2.1 ∧ ν 7817 c = x.2.2 ∧ ν 7818 c = (if cFr x.2.1 then 1 else 0) ∧ ν 7816 c = (if cFr x.2.1 then 0 else x.2.1)
theorem tCn.to {c : Nat} {x : Cn} (h : tCn ν c x) (f : ∀ a, 7813 ≤ a → a ≤ 7818 → ν' a c = ν a c) : tCn ν' c x := sorry
def tTd (ν : ab_M) (t : Nat) (x : Td) : Prop := (tNm (ν 7765 t) (ν 7766 t) x.2.1.1 ∧ ν 7767 t = x.2.1.2.1 ∧ ν 7768 t = x.1 ∧ ν 7773 t = x.2.2.1.1 ∧ ν 7774 t = x.2.2.1.2) ∧ (x.1 = 0 → (ν 7769 t = x.2.2.2.1.length ∧ x.2.2.2.1.length ≤ 16) ∧ ν 7770 t = 0 ∧ ∀ (j : Nat) (y : Cn), x.2.2.2.1[j]? = some y → tCn ν (16 * t + j) y) ∧ (x.1 = 1 → tRb ν t x.2.2.2.2) ∧ (x.1 = 0 ∨ x.1 = 1)
theorem tTd.to {t : Nat} {x : Td} (h : tTd ν t x) (f : ∀ a i, 7765 ≤ a → a ≤ 7818 → tyI a i = t → ν' a i = ν a i) : tTd ν' t x := sorry
theorem wrCns_o {t : Nat} : ∀ (L : List Cn) (ν : ab_M) (j : Nat) (a i : Nat), (a ≠ 7769 ∨ i ≠ t) → (a < 7813 ∨ 7818 < a ∨ i < 16 * t + j ∨ 16 * t + j + L.length ≤ i) → wrCns t ν j L a i = ν a i := sorry
theorem wrCns_c {t : Nat} : ∀ (L : List Cn) (ν : ab_M) (j : Nat), (ν 7769 t = j → wrCns t ν j L 7769 t = ((j + L.length : Nat) : Int)) ∧ ∀ (k : Nat) (x : Cn), L[k]? = some x → tCn (wrCns t ν j L) (16 * t + (j + k)) x := sorry
def frTyd (t : Nat) (ν ν' : ab_M) : Prop := ∀ a i, (a < 7765 ∨ 7818 < a ∨ tyI a i ≠ t) → (a < 7853 ∨ 7855 < a) → (a ≠ 7763 ∨ i ≠ 4) → (a ≠ 7756 ∨ i ≠ 110 ∧ i ≠ 116 ∧ i ≠ 118) → ν' a i = ν a i
theorem wrTy_o {k b : Nat} {r : Int} {nm : Nm} {a i : Nat} (h1 : a < 7765 ∨ 7773 < a ∨ i ≠ 120 + k) (h2 : a ≠ 7763 ∨ i ≠ 4) (h3 : a ≠ 7756 ∨ i ≠ 116) : wrTy ν k r nm b a i = ν a i := sorry
theorem wrTy_v {k b : Nat} {r : Int} {nm : Nm} : tNm (wrTy ν k r nm b 7765 (120 + k)) (wrTy ν k r nm b 7766 (120 + k)) nm.1 ∧ wrTy ν k r nm b 7767 (120 + k) = nm.2.1 ∧ wrTy ν k r nm b 7768 (120 + k) = r ∧ wrTy ν k r nm b 7773 (120 + k) = b ∧ wrTy ν k r nm b 7769 (120 + k) = 0 ∧ wrTy ν k r nm b 7770 (120 + k) = 0 ∧ wrTy ν k r nm b 7763 4 = ((k + 1 : Nat) : Int) ∧ wrTy ν k r nm b 7756 116 = ((120 + k : Nat) : Int) := sorry
def kpL : Nat → List Td → List (Nat × Int × Nat)
  | _, [] => []
  | t, x :: L => ((evK x.2.2.2.2).map fun y => (t, y)) ++ kpL (t + 1) L
theorem kpL_app : ∀ (L : List Td) (t : Nat) (x : Td), kpL t (L ++ [x]) = kpL t L ++ (evK x.2.2.2.2).map fun y => (t + L.length, y) := sorry
def tDr (ν : ab_M) (D : Dr) : Prop := (ν 7763 4 = D.1.length ∧ D.1.length ≤ 30) ∧ (ν 7764 4 = D.2.length ∧ D.2.length ≤ 4) ∧ (∀ (k : Nat) (x : Td), D.1[k]? = some x → tTd ν (120 + k) x) ∧ (∀ (v : Nat) (x : Sd), D.2[v]? = some x → tSd ν (16 + v) x) ∧ tKq ν (kpL 120 D.1)
theorem tSd.to {v : Nat} {x : Sd} (h : tSd ν v x) (f1 : ∀ a, 7819 ≤ a → a ≤ 7825 → ν' a v = ν a v) (f2 : ∀ a i, 7826 ≤ a → a ≤ 7828 → i / 8 = v → ν' a i = ν a i) (f3 : ∀ a i, 7829 ≤ a → a ≤ 7838 → i / 10 = v → ν' a i = ν a i) (f4 : ∀ a i, 7839 ≤ a → a ≤ 7841 → i / 20 = v → ν' a i = ν a i) (f5 : ∀ a i, 7842 ≤ a → a ≤ 7852 → i / 1000 = v → ν' a i = ν a i) : tSd ν' v x := sorry
theorem tDr.ty {D : Dr} {x : Td} (h : tDr ν D) (l : D.1.length < 30) (f : frTyd (120 + D.1.length) ν ν') (hc : ν' 7763 4 = ((D.1.length + 1 : Nat) : Int)) (hx : tTd ν' (120 + D.1.length) x) (hk : tKq ν' (kpL 120 D.1 ++ (evK x.2.2.2.2).map fun y => (120 + D.1.length, y))) : tDr ν' (D.1 ++ [x], D.2) := sorry
theorem tDr.sv {D : Dr} {x : Sd} (h : tDr ν D) (l : D.2.length < 4) (f : frSd2 (16 + D.2.length) ν ν') (hc : ν' 7764 4 = ((D.2.length + 1 : Nat) : Int)) (hx : tSd ν' (16 + D.2.length) x) : tDr ν' (D.1, D.2 ++ [x]) := sorry
end Yi
end
section
section Yj
variable {T : Nat → Int} {n : Nat} {σ σ' : PS} {μ μ' μ'' μ0 ν ν' ν'' : ab_M} {d : Nat}
theorem spConsts_pg (hT : ∀ k, k < n → 0 ≤ T k ∧ T k < 256) : ∀ (f j : Nat) (σ : PS) (p : List Cn × PS), psO T n σ → spConsts T n f j σ = .inr p → pgS T n σ p.2 ∧ isSg p.2.1 125 := sorry
theorem spEnum_pg {nt b : Nat} {p : Td × PS} (hT : ∀ k, k < n → 0 ≤ T k ∧ T k < 256) (o : psO T n σ) (e : spEnum T n nt b σ = .inr p) : pgS T n σ p.2 := sorry
theorem spOF_pg {one : Int} (hT : ∀ k, k < n → 0 ≤ T k ∧ T k < 256) : ∀ (f nf : Nat) (σ : PS) (p : List Fe × PS), psO T n σ → spOF T n one f nf σ = .inr p → pgS T n σ p.2 := sorry
theorem spBody_pg (hT : ∀ k, k < n → 0 ≤ T k ∧ T k < 256) : ∀ (f no nf : Nat) (σ : PS) (p : List Ev × PS), psO T n σ → spBody T n f no nf σ = .inr p → pgS T n σ p.2 := sorry
theorem spRec_pg {nt b : Nat} {p : Td × PS} (hT : ∀ k, k < n → 0 ≤ T k ∧ T k < 256) (o : psO T n σ) (e : spRec T n nt b σ = .inr p) : pgS T n σ p.2 := sorry
theorem spCells_pg (hT : ∀ k, k < n → 0 ≤ T k ∧ T k < 256) : ∀ (f j : Nat) (σ : PS) (p : List Nm × PS), psO T n σ → spCells T n f j σ = .inr p → psO T n p.2 ∧ σ.1.2.1 ≤ p.2.1.2.1 := sorry
theorem spSts_pg (hT : ∀ k, k < n → 0 ≤ T k ∧ T k < 256) : ∀ (f c : Nat) (σ : PS) (p : List Sp × Nat × PS), psO T n σ → spSts T n f c σ = .inr p → pgS T n σ p.2.2 := sorry
theorem spCall_pg {j : Nat} {p : Cl × PS} (hT : ∀ k, k < n → 0 ≤ T k ∧ T k < 256) (o : psO T n σ) (e : spCall T n j σ = .inr p) : pgS T n σ p.2 := sorry
theorem spCalls_pg (hT : ∀ k, k < n → 0 ≤ T k ∧ T k < 256) : ∀ (f j : Nat) (σ : PS) (p : List Cl × PS), psO T n σ → spCalls T n f j σ = .inr p → pgS T n σ p.2 := sorry
theorem spSv_pg {nv b : Nat} {p : Sd × PS} (hT : ∀ k, k < n → 0 ≤ T k ∧ T k < 256) (o : psO T n σ) (e : spSv T n nv b σ = .inr p) : pgS T n σ p.2 := sorry
theorem tg_record {k : Nat} {K : List (Nat × Int × Nat)} (h : tG μ T n σ ν) (nz : σ.1.1 ≠ 0) (hk : ν 7763 4 = k) (k30 : k ≤ 30) (hK : tKq ν K) (l2 : 2 * K.length ≤ σ.1.2.1) : tGz (ab_run wt (d + 9) 269 0 [(2, 7756), (3, 0)] [] μ) ν (bnd (spA T n σ) fun σ1 => spRec T n k σ.2.length σ1) (fun p μ' => ∃ ν', tG μ' T n p.2 ν' ∧ tTd ν' (120 + k) p.1 ∧ frTyd (120 + k) ν ν' ∧ k < 30 ∧ ν' 7763 4 = ((k + 1 : Nat) : Int) ∧ tKq ν' (K ++ (evK p.1.2.2.2.2).map fun y => (120 + k, y)) ∧ 2 * (K.length + (evK p.1.2.2.2.2).length) ≤ p.2.1.2.1) := sorry
theorem wrEn_td {k : Nat} {x : Td} (h0 : x.1 = 0) (l : x.2.2.2.1.length ≤ 16) (he : x.2.2.2.2 = []) : tTd (wrEn ν k x) (120 + k) x ∧ frTyd (120 + k) ν (wrEn ν k x) ∧ wrEn ν k x 7763 4 = ((k + 1 : Nat) : Int) ∧ ∀ a i, (7853 ≤ a ∧ a ≤ 7855 ∨ a = 7756 ∧ i = 110) → wrEn ν k x a i = ν a i := sorry
end Yj
end
section
section Yk
variable {T : Nat → Int} {n : Nat} {σ σ' : PS} {μ μ' μ'' μ0 ν ν' ν'' : ab_M} {d : Nat}
theorem frTyd.z {t : Nat} (ht : 120 ≤ t) (f : frTyd t ν ν') : frSg ν ν' := sorry
theorem frSd2.z {v : Nat} (hv : 16 ≤ v) (f : frSd2 v ν ν') : frSg ν ν' := sorry
theorem tg_p35 : ∀ (f : Nat) (μ : ab_M) (σ : PS) (ν : ab_M) (D : Dr), n < σ.1.2.1 + f → tG μ T n σ ν → tDr ν D → 2 * (kpL 120 D.1).length ≤ σ.1.2.1 → tGz (ab_run wt (d + 12) 199 35 [(2, 7756), (3, 0)] [] μ) ν (spAll T n f D σ) (fun p μ' => ∃ ν', tG μ' T n p.2 ν' ∧ tDr ν' p.1 ∧ frSg ν ν') := sorry
theorem tg_parse (tx : tTx μ T n) (sc : μ 7756 7 = 0) (ft : μ 7756 17 = 0) : (∀ f, spText T n = .inl f → Ft (ab_run wt (d + 12) 199 0 [(2, 7756), (3, 0)] [] μ) (frSg μ) f.1 f.2) ∧ ∀ p, spText T n = .inr p → ∃ μ' ν' σ, (ab_run wt (d + 12) 199 0 [(2, 7756), (3, 0)] [] μ) = some ((0, 1), μ') ∧ tG μ' T n σ ν' ∧ σ.2 = p.2 ∧ σ.2.length ≤ 2 * n ∧ tDr ν' p.1 ∧ frSg μ ν' := sorry
end Yk
end
section
section Yl
variable {μ μ' μ'' μ0 : ab_M} {d : Nat} {P P' F F' : Int → Int → Prop} {w p : Int}
def mnF (P : Int → Int → Prop) (w p : Int) : Prop := w = 0 ∧ (∀ x y, ¬ P x y) ∨ w ≠ 0 ∧ P p w ∧ ∀ x y, P x y → p < x ∨ p = x ∧ w ≤ y
theorem mnF.to (h : mnF P w p) (e : ∀ x y, P x y ↔ P' x y) : mnF P' w p := sorry
theorem mnF.dom (h : mnF P' w p) (s : ∀ x y, P x y → P' x y) (dm : ∀ x y, P' x y → ∃ x' y', P x' y' ∧ (x' < x ∨ x' = x ∧ y' ≤ y)) : mnF P w p := sorry
theorem mnF.uniq {w' p' : Int} (h : mnF P w p) (h' : mnF P w' p') : w = w' ∧ (w ≠ 0 → p = p') := sorry
def mtF (w p u q : Int) : Int × Int := if w = 0 ∨ q < p ∨ q = p ∧ u < w then (u, q) else (w, p)
theorem mnF.met {u q : Int} (h : mnF P w p) (hu : u ≠ 0) : mnF (fun x y => P x y ∨ x = q ∧ y = u) (mtF w p u q).1 (mtF w p u q).2 := sorry
def jM (P : Int → Int → Prop) (μ : ab_M) : Prop := mnF P (μ 7756 127) (μ 7756 128)
def frWo (μ μ' : ab_M) : Prop := ∀ a i, (a ≠ 7756 ∨ i ≠ 127 ∧ i ≠ 128) → μ' a i = μ a i
theorem frWo.refl : frWo μ μ := sorry
theorem frWo.trans (f : frWo μ μ') (g : frWo μ' μ'') : frWo μ μ'' := sorry
theorem tw_later {u q : Int} : (ab_run wt (d + 1) 139 0 [(2, 7756), (0, u), (0, q)] [] μ) = some ((3, 0), ab_up (ab_up μ 7756 127 (mtF (μ 7756 127) (μ 7756 128) u q).1) 7756 128 (mtF (μ 7756 127) (μ 7756 128) u q).2) := sorry
def jGo (run : ab_R) (μ : ab_M) (K : ab_M → ab_R) (F : Int → Int → Prop) : Prop := ∀ P, jM P μ → ∃ μ', run = K μ' ∧ jM (fun x y => P x y ∨ F x y) μ' ∧ frWo μ μ'
theorem jGo.later {u q : Int} {K : ab_M → ab_R} (hu : u ≠ 0) : jGo (ab_cal (ab_run wt (d + 1) 139 0 [(2, 7756), (0, u), (0, q)] [] μ) 3 (fun r1 μ1 => some ((4, r1), μ1)) (fun _ μ1 => K μ1)) μ K (fun x y => x = q ∧ y = u) := sorry
theorem jGo.id {K : ab_M → ab_R} {run : ab_R} (e : run = K μ) (n : ∀ x y, ¬ F x y) : jGo run μ K F := sorry
theorem jGo.seq {run : ab_R} {K K' : ab_M → ab_R} (h : jGo run μ K F) (k : ∀ μ1, frWo μ μ1 → jGo (K μ1) μ1 K' F') : jGo run μ K' (fun x y => F x y ∨ F' x y) := sorry
theorem jGo.to {run : ab_R} {K : ab_M → ab_R} (h : jGo run μ K F) (e : ∀ x y, F x y ↔ F' x y) : jGo run μ K F' := sorry
theorem jGo.eq {run run' : ab_R} {K : ab_M → ab_R} (h : jGo run μ K F) (e : run' = run) : jGo run' μ K F := sorry
theorem jGo.ite {u q : Int} {K : ab_M → ab_R} {C : Prop} {run : ab_R} (hu : u ≠ 0) (ht : C → run = ab_cal (ab_run wt (d + 1) 139 0 [(2, 7756), (0, u), (0, q)] [] μ) 3 (fun r1 μ1 => some ((4, r1), μ1)) (fun _ μ1 => K μ1)) (hf : ¬ C → run = K μ) : jGo run μ K (fun x y => C ∧ x = q ∧ y = u) := sorry
theorem jLoop {R : Nat → ab_M → ab_R} {K : ab_M → ab_R} {G : Nat → Int → Int → Prop} {n : Nat} (step : ∀ i, i < n → ∀ μ, frWo μ0 μ → jGo (R i μ) μ (R (i + 1)) (G i)) (fin : ∀ μ, frWo μ0 μ → R n μ = K μ) : ∀ (m i : Nat), i + m = n → ∀ μ, frWo μ0 μ → jGo (R i μ) μ K (fun x y => ∃ k, i ≤ k ∧ k < n ∧ G k x y) := sorry
theorem tNm_iff {a b c e : Int} {l l' : List Int} (h : tNm a b l) (h' : tNm c e l') (hl : nmT l) (hl' : nmT l') : a = c ∧ b = e ↔ l = l' := sorry
def F4n (L : List Nm) (x y : Int) : Prop := y = 4 ∧ ∃ a ∈ L, x = a.2.1 ∧ ∃ b ∈ L, b.1 = a.1 ∧ b.2.1 < a.2.1
def F6n (bad : Int → Prop) (L : List (Int × Nat)) (x y : Int) : Prop := y = 6 ∧ ∃ a ∈ L, x = a.2 ∧ (bad a.1 ∨ ∃ b ∈ L, b.1 = a.1 ∧ b.2 < a.2)
end Yl
end
section
section Ym
variable {μ μ' μ'' μ0 ν : ab_M} {d : Nat} {D : Dr}
theorem tDr.mv (h : tDr μ D) (f : ∀ a i, (7763 ≤ a ∧ a ≤ 7855 ∨ a = 7756 ∧ i = 110) → μ' a i = μ a i) : tDr μ' D := sorry
theorem tDr.wo (h : tDr μ D) (f : frWo μ μ') : tDr μ' D := sorry
theorem tDr.gh {T : Nat → Int} {n : Nat} {σ : PS} (h : tDr ν D) (g : tG μ T n σ ν) : tDr μ D := sorry
def tyNm (D : Dr) (k : Nat) : Nm := ((D.1[k]?).map fun x => x.2.1).getD nmZ0
def svNm (D : Dr) (v : Nat) : Nm := ((D.2[v]?).map fun x => x.1).getD nmZ0
theorem tDr.tn (h : tDr μ D) {k : Nat} (hk : k < D.1.length) : tNm (μ 7765 (120 + k)) (μ 7766 (120 + k)) (tyNm D k).1 ∧ μ 7767 (120 + k) = (tyNm D k).2.1 := sorry
theorem tDr.sn (h : tDr μ D) {v : Nat} (hv : v < D.2.length) : tNm (μ 7819 (16 + v)) (μ 7820 (16 + v)) (svNm D v).1 ∧ μ 7821 (16 + v) = (svNm D v).2.1 := sorry
def itOk (D : Dr) : Prop := (∀ k, k < D.1.length → nmT (tyNm D k).1) ∧ (∀ v, v < D.2.length → nmT (svNm D v).1) ∧ (∀ v w, v < w → w < D.2.length → (svNm D v).2.1 < (svNm D w).2.1) ∧ ∀ k v, k < D.1.length → v < D.2.length → (tyNm D k).2.1 ≠ (svNm D v).2.1
def itNm (D : Dr) : List Nm := D.1.map (fun x => x.2.1) ++ D.2.map (fun x => x.1)
theorem itNm_mem {a : Nm} : a ∈ itNm D ↔ (∃ k, k < D.1.length ∧ a = tyNm D k) ∨ ∃ v, v < D.2.length ∧ a = svNm D v := sorry
theorem tw_judgeNames (h : tDr μ D) (o : itOk D) : jGo (ab_run wt (d + 2) 121 0 [(2, 7756), (3, 0), (3, 0)] [] μ) μ (fun μ => some ((3, 0), μ)) (F4n (itNm D)) := sorry
end Ym
end
section
section Yn
variable {μ μ' μ'' μ0 ν : ab_M} {d : Nat} {D : Dr}
theorem F4n_ix {L : List Nm} (inc : ∀ (i j : Nat) (a b : Nm), L[i]? = some a → L[j]? = some b → i < j → a.2.1 < b.2.1) {x y : Int} : F4n L x y ↔ y = 4 ∧ ∃ (j : Nat) (b : Nm), L[j]? = some b ∧ x = b.2.1 ∧ ∃ (i : Nat) (a : Nm), i < j ∧ L[i]? = some a ∧ a.1 = b.1 := sorry
theorem F6n_ix {bad : Int → Prop} {L : List (Int × Nat)} (inc : ∀ (i j : Nat) (a b : Int × Nat), L[i]? = some a → L[j]? = some b → i < j → a.2 < b.2) {x y : Int} : F6n bad L x y ↔ y = 6 ∧ ∃ (j : Nat) (b : Int × Nat), L[j]? = some b ∧ x = b.2 ∧ (bad b.1 ∨ ∃ (i : Nat) (a : Int × Nat), i < j ∧ L[i]? = some a ∧ a.1 = b.1) := sorry
def cnO (C : List Cn) : Prop := (∀ x ∈ C, nmT x.1.1) ∧ ∀ (i j : Nat) (a b : Cn), C[i]? = some a → C[j]? = some b → i < j → a.1.2.1 < b.1.2.1 ∧ a.2.2 < b.2.2
theorem tw_judgeEnum {t : Nat} {C : List Cn} (t1 : t < 150) (hc : μ 7769 t = C.length) (l16 : C.length ≤ 16) (hC : ∀ (j : Nat) (x : Cn), C[j]? = some x → tCn μ (16 * t + j) x) (o : cnO C) : jGo (ab_run wt (d + 2) 118 0 [(2, 7756), (0, t), (3, 0), (3, 0)] [] μ) μ (fun μ => some ((3, 0), μ)) (fun x y => F4n (C.map fun x => x.1) x y ∨ F6n cFr (C.map fun x => x.2) x y) := sorry
end Yn
end
section
section Yo
variable {μ μ' : ab_M} {d : Nat} {g : Nat → List Int} {nm : List Int}
theorem tNm_is {a b : Int} {l nm : List Int} (h : tNm a b l) (h1 : nmT l) (h2 : nmT nm) : (a = nmk nm 0 8 ∧ b = nmk nm 8 8) ↔ l = nm := sorry
theorem tq_findTypeL {c : Nat} (hc : μ 7763 4 = c) (c30 : c ≤ 30) (hg : ∀ i, i < c → tNm (μ 7765 (120 + i)) (μ 7766 (120 + i)) (g i) ∧ nmT (g i)) (hn : nmT nm) : ∀ (m i : Nat), i + m = c → (ab_run wt (d + 1) 65 3 [(2, 7756), (1, (nmk nm 0 8)), (3, 0), (1, (nmk nm 8 8)), (3, 0), (0, i), (3, 0)] [] μ) = some ((0, if nFd g nm m i < 0 then -2 else nFd g nm m i), μ) := sorry
theorem tq_findType {c : Nat} (hc : μ 7763 4 = c) (c30 : c ≤ 30) (hg : ∀ i, i < c → tNm (μ 7765 (120 + i)) (μ 7766 (120 + i)) (g i) ∧ nmT (g i)) (hn : nmT nm) : (ab_run wt (d + 1) 65 0 [(2, 7756), (1, (nmk nm 0 8)), (3, 0), (1, (nmk nm 8 8)), (3, 0), (3, 0), (3, 0)] [] μ) = some ((0, if nFd g nm c 0 < 0 then -2 else nFd g nm c 0), μ) := sorry
theorem tq_findConstL {c t : Nat} (t1 : t < 150) (hc : μ 7769 t = c) (c30 : c ≤ 16) (hg : ∀ i, i < c → tNm (μ 7813 (16 * t + i)) (μ 7814 (16 * t + i)) (g i) ∧ nmT (g i)) (hn : nmT nm) : ∀ (m i : Nat), i + m = c → (ab_run wt (d + 1) 63 3 [(2, 7756), (0, t), (1, (nmk nm 0 8)), (3, 0), (1, (nmk nm 8 8)), (3, 0), (0, i)] [] μ) = some ((0, if nFd g nm m i < 0 then -2 else nFd g nm m i), μ) := sorry
theorem tq_findConst {c t : Nat} (t1 : t < 150) (hc : μ 7769 t = c) (c30 : c ≤ 16) (hg : ∀ i, i < c → tNm (μ 7813 (16 * t + i)) (μ 7814 (16 * t + i)) (g i) ∧ nmT (g i)) (hn : nmT nm) : (ab_run wt (d + 1) 63 0 [(2, 7756), (0, t), (1, (nmk nm 0 8)), (3, 0), (1, (nmk nm 8 8)), (3, 0), (3, 0)] [] μ) = some ((0, if nFd g nm c 0 < 0 then -2 else nFd g nm c 0), μ) := sorry
theorem tq_findFieldL {c t : Nat} (t1 : t < 150) (hc : μ 7769 t = c) (c30 : c ≤ 24) (hg : ∀ i, i < c → tNm (μ 7775 (24 * t + i)) (μ 7776 (24 * t + i)) (g i) ∧ nmT (g i)) (hn : nmT nm) : ∀ (m i : Nat), i + m = c → (ab_run wt (d + 1) 64 3 [(2, 7756), (0, t), (1, (nmk nm 0 8)), (3, 0), (1, (nmk nm 8 8)), (3, 0), (0, i)] [] μ) = some ((0, if nFd g nm m i < 0 then -2 else nFd g nm m i), μ) := sorry
theorem tq_findField {c t : Nat} (t1 : t < 150) (hc : μ 7769 t = c) (c30 : c ≤ 24) (hg : ∀ i, i < c → tNm (μ 7775 (24 * t + i)) (μ 7776 (24 * t + i)) (g i) ∧ nmT (g i)) (hn : nmT nm) : (ab_run wt (d + 1) 64 0 [(2, 7756), (0, t), (1, (nmk nm 0 8)), (3, 0), (1, (nmk nm 8 8)), (3, 0), (3, 0)] [] μ) = some ((0, if nFd g nm c 0 < 0 then -2 else nFd g nm c 0), μ) := sorry
theorem tq_findCellL {c v : Nat} (t1 : v < 20) (hc : μ 7823 v = c) (c30 : c ≤ 8) (hg : ∀ i, i < c → tNm (μ 7826 (8 * v + i)) (μ 7827 (8 * v + i)) (g i) ∧ nmT (g i)) (hn : nmT nm) : ∀ (m i : Nat), i + m = c → (ab_run wt (d + 1) 62 3 [(2, 7756), (0, v), (1, (nmk nm 0 8)), (3, 0), (1, (nmk nm 8 8)), (3, 0), (0, i)] [] μ) = some ((0, if nFd g nm m i < 0 then -2 else nFd g nm m i), μ) := sorry
theorem tq_findCell {c v : Nat} (t1 : v < 20) (hc : μ 7823 v = c) (c30 : c ≤ 8) (hg : ∀ i, i < c → tNm (μ 7826 (8 * v + i)) (μ 7827 (8 * v + i)) (g i) ∧ nmT (g i)) (hn : nmT nm) : (ab_run wt (d + 1) 62 0 [(2, 7756), (0, v), (1, (nmk nm 0 8)), (3, 0), (1, (nmk nm 8 8)), (3, 0), (3, 0)] [] μ) = some ((0, if nFd g nm c 0 < 0 then -2 else nFd g nm c 0), μ) := sorry
end Yo
end
section
section Yp
variable {μ μ' μ'' μ0 ν : ab_M} {d : Nat} {D : Dr} {F F' : Int → Int → Prop} {Q Q' : ab_M → Prop}
def jGx (Q : ab_M → Prop) (run : ab_R) (μ : ab_M) (K : ab_M → ab_R) (F : Int → Int → Prop) : Prop := ∀ P, jM P μ → ∃ μ', run = K μ' ∧ jM (fun x y => P x y ∨ F x y) μ' ∧ Q μ'
theorem jGo.x {run : ab_R} {K : ab_M → ab_R} (h : jGo run μ K F) (q : ∀ μ', frWo μ μ' → Q μ') : jGx Q run μ K F := sorry
theorem jGx.wr {run : ab_R} {K : ab_M → ab_R} (h : jGx Q run ν K F) (e1 : ν 7756 127 = μ 7756 127) (e2 : ν 7756 128 = μ 7756 128) : jGx Q run μ K F := sorry
theorem jGx.to {run : ab_R} {K : ab_M → ab_R} (h : jGx Q run μ K F) (e : ∀ x y, F x y ↔ F' x y) : jGx Q run μ K F' := sorry
theorem jGx.eq {run run' : ab_R} {K : ab_M → ab_R} (h : jGx Q run μ K F) (e : run' = run) : jGx Q run' μ K F := sorry
theorem jGx.imp {run : ab_R} {K : ab_M → ab_R} (h : jGx Q run μ K F) (q : ∀ μ', Q μ' → Q' μ') : jGx Q' run μ K F := sorry
theorem jGx.seq {run : ab_R} {K K' : ab_M → ab_R} (h : jGx Q run μ K F) (k : ∀ μ1, Q μ1 → jGx Q' (K μ1) μ1 K' F') : jGx Q' run μ K' (fun x y => F x y ∨ F' x y) := sorry
theorem jGx.id {run : ab_R} {K : ab_M → ab_R} (e : run = K ν) (e1 : ν 7756 127 = μ 7756 127) (e2 : ν 7756 128 = μ 7756 128) (n : ∀ x y, ¬ F x y) (q : Q ν) : jGx Q run μ K F := sorry
def tyR (D : Dr) (k : Nat) : Int := ((D.1[k]?).map fun x => x.1).getD 0
def tyCs (D : Dr) (k : Nat) : List Cn := ((D.1[k]?).map fun x => x.2.2.2.1).getD []
def tTs (μ : ab_M) (D : Dr) : Prop := (μ 7763 4 = D.1.length ∧ D.1.length ≤ 30) ∧ ∀ k, k < D.1.length → (tNm (μ 7765 (120 + k)) (μ 7766 (120 + k)) (tyNm D k).1 ∧ nmT (tyNm D k).1) ∧ (μ 7768 (120 + k) = tyR D k ∧ (tyR D k = 0 ∨ tyR D k = 1)) ∧ (tyR D k = 0 → (μ 7769 (120 + k) = (tyCs D k).length ∧ 0 < (tyCs D k).length ∧ (tyCs D k).length ≤ 16) ∧ ∀ (j : Nat) (y : Cn), (tyCs D k)[j]? = some y → tCn μ (16 * (120 + k) + j) y ∧ nmT y.1.1)
theorem tTs.mv (h : tTs μ D) (f : ∀ a i, (7763 ≤ a ∧ a ≤ 7774 ∨ 7813 ≤ a ∧ a ≤ 7818) → μ' a i = μ a i) : tTs μ' D := sorry
def tyF (D : Dr) (nm : List Int) : Int := nFd (fun i => (tyNm D i).1) nm D.1.length 0
def cnG (D : Dr) (k j : Nat) : List Int := (((tyCs D k)[j]?).map fun y => y.1.1).getD []
def cnF (D : Dr) (k : Nat) (nm : List Int) : Int := nFd (cnG D k) nm (tyCs D k).length 0
def cnN (D : Dr) (k j : Nat) : Int := (((tyCs D k)[j]?).map fun y => if cFr y.2.1 then 0 else y.2.1).getD 0
def kdF (D : Dr) (t : Tr) : Int := if t.1 = 99 then (if tyF D t.2.1 < 0 then 99 else if tyR D (tyF D t.2.1).toNat = 0 then 11 else 12) else t.1
def tyX (D : Dr) (t : Tr) : Int := if t.1 = 99 ∧ 0 ≤ tyF D t.2.1 then tyF D t.2.1 else -2
theorem tTs.find (h : tTs μ D) {nm : List Int} (hn : nmT nm) : (ab_run wt (d + 1) 65 0 [(2, 7756), (1, (nmk nm 0 8)), (3, 0), (1, (nmk nm 8 8)), (3, 0), (3, 0), (3, 0)] [] μ) = some ((0, if tyF D nm < 0 then -2 else tyF D nm), μ) := sorry
theorem tyF_rg {nm : List Int} : tyF D nm < 0 ∨ ∃ k : Nat, tyF D nm = k ∧ k < D.1.length := sorry
theorem tTs.const (h : tTs μ D) {k : Nat} (hk : k < D.1.length) (hr : tyR D k = 0) {nm : List Int} (hn : nmT nm) : (ab_run wt (d + 1) 63 0 [(2, 7756), (0, (((120 + k : Nat) : Int))), (1, (nmk nm 0 8)), (3, 0), (1, (nmk nm 8 8)), (3, 0), (3, 0)] [] μ) = some ((0, if cnF D k nm < 0 then -2 else cnF D k nm), μ) := sorry
theorem cnF_rg {k : Nat} {nm : List Int} : cnF D k nm < 0 ∨ ∃ j : Nat, cnF D k nm = j ∧ j < (tyCs D k).length := sorry
theorem tTs.cn (h : tTs μ D) {k j : Nat} (hk : k < D.1.length) (hr : tyR D k = 0) (hj : j < (tyCs D k).length) : μ 7816 (16 * (120 + k) + j) = cnN D k j ∧ j < 16 := sorry
noncomputable def vW2 (D : Dr) (x : Fe) (v : Vl) : Int := by
  classical
  exact if kdF D x.2.2.2.1 = 11 ∧ v.1 = 4 then (if cnF D (tyX D x.2.2.2.1).toNat v.2.2.1 < 0 then 5 else 0)
    else if kdF D x.2.2.2.1 = 0 then (if v.1 = 1 ∨ v.1 = 2 then 0 else 7)
    else if kdF D x.2.2.2.1 = 9 ∨ kdF D x.2.2.2.1 = 10 then (if v.1 = 3 ∧ (kdF D x.2.2.2.1 = 9 → utf v.2.2.1) then 0 else 7)
    else if v.1 = 0 ∧ kFit (kdF D x.2.2.2.1) v.2.1 then 0 else 7
noncomputable def vW (D : Dr) (x : Fe) (v : Vl) : Int := if kdF D x.2.2.2.1 = 99 then 0 else if 0 < moM x.2.1.1 x.2.2.1 ∨ 0 ≤ x.1 ∨ kdF D x.2.2.2.1 = 12 then 7 else vW2 D x v
def dVs (D : Dr) (x : Fe) (v : Vl) : Int := if kdF D x.2.2.2.1 = 11 ∧ v.1 = 4 then cnN D (tyX D x.2.2.2.1).toNat (cnF D (tyX D x.2.2.2.1).toNat v.2.2.1).toNat else if kdF D x.2.2.2.1 = 0 then (if v.1 = 1 then 1 else 0) else v.2.1
def frWv (f : Nat) (μ μ' : ab_M) : Prop := ∀ a i, (a ≠ 7756 ∨ i ≠ 127 ∧ i ≠ 128) → (a ≠ 7785 ∨ i ≠ f) → μ' a i = μ a i
theorem frWo.v {f : Nat} (h : frWo μ μ') : frWv f μ μ' := sorry
def trO (t : Tr) : Prop := (0 ≤ t.1 ∧ t.1 ≤ 10 ∨ t.1 = 99) ∧ nmT t.2.1
def vlO (v : Vl) : Prop := (0 ≤ v.1 ∧ v.1 ≤ 4) ∧ (v.1 = 4 → nmT v.2.2.1)
def vQ (D : Dr) (x : Fe) (v : Vl) (f : Nat) (μ μ' : ab_M) : Prop := frWv f μ μ' ∧ (vW D x v = 0 → kdF D x.2.2.2.1 ≠ 99 → kdF D x.2.2.2.1 ≠ 9 → kdF D x.2.2.2.1 ≠ 10 → μ' 7785 f = dVs D x v)
theorem kdF_rg {t : Tr} (h : trO t) : 0 ≤ kdF D t ∧ kdF D t ≤ 12 ∨ kdF D t = 99 := sorry
theorem kdF_11 {t : Tr} (h : trO t) (e : kdF D t = 11) : ∃ k : Nat, tyX D t = k ∧ k < D.1.length ∧ tyR D k = 0 := sorry
theorem tw_judgeValue {f : Nat} {x : Fe} {v : Vl} (f1 : f < 3600) (ts : tTs μ D) (h1 : μ 7780 f = kdF D x.2.2.2.1) (h2 : μ 7781 f = tyX D x.2.2.2.1) (h3 : μ 7779 f = moM x.2.1.1 x.2.2.1) (h4 : μ 7783 f = if x.1 < 0 then -2 else x.1) (h5 : tVf μ f v) (ot : trO x.2.2.2.1) (ov : vlO v) : jGx (vQ D x v f μ) (ab_run wt (d + 2) 128 0 [(2, 7756), (0, f), (3, 0), (3, 0), (3, 0), (3, 0)] [] μ) μ (fun μ => some ((3, 0), μ)) (fun X Y => vW D x v ≠ 0 ∧ X = v.2.2.2 ∧ Y = vW D x v) := sorry
end Yp
end
section
section Yq
variable {μ μ' μ'' μ0 ν : ab_M} {d : Nat} {D : Dr} {F F' : Int → Int → Prop} {Q Q' : ab_M → Prop}
def Fm1 (x : Fe) (X Y : Int) : Prop := (0 ≤ x.1 ∧ 0 < x.2.1.1) ∧ X = x.2.1.2 ∧ Y = 7
def Fm2 (x : Fe) (X Y : Int) : Prop := ∃ m, x.2.2.1 = some m ∧ (0 < x.2.1.1 ∨ 0 ≤ x.1) ∧ X = m.1 ∧ Y = 7
def Fm3 (D : Dr) (x : Fe) (X Y : Int) : Prop := ∃ m, x.2.2.1 = some m ∧ (m.2.1 = 99 ∧ tyF D m.2.2.1 < 0) ∧ X = m.2.2.2 ∧ Y = 5
def Fm4 (x : Fe) (X Y : Int) : Prop := ∃ m, x.2.2.1 = some m ∧ (m.2.1 < 1 ∨ 9 < m.2.1) ∧ X = m.2.2.2 ∧ Y = 7
def Fm0 (D : Dr) (x : Fe) (X Y : Int) : Prop := (x.2.2.2.1.1 = 99 ∧ tyF D x.2.2.2.1.2.1 < 0) ∧ X = x.2.2.2.1.2.2 ∧ Y = 5
def Fm5 (D : Dr) (x : Fe) (X Y : Int) : Prop := ∃ v, x.2.2.2.2.2.2 = some v ∧ vW D x v ≠ 0 ∧ X = v.2.2.2 ∧ Y = vW D x v
def Ff (D : Dr) (x : Fe) (X Y : Int) : Prop := Fm0 D x X Y ∨ Fm1 x X Y ∨ Fm2 x X Y ∨ Fm3 D x X Y ∨ Fm4 x X Y ∨ Fm5 D x X Y
def feO (x : Fe) : Prop := trO x.2.2.2.1 ∧ (0 ≤ x.2.1.1 ∧ x.2.1.1 ≤ 2) ∧ (∀ m, x.2.2.1 = some m → trO m.2) ∧ ∀ v, x.2.2.2.2.2.2 = some v → vlO v
def tFw (μ : ab_M) (f : Nat) (x : Fe) : Prop := (μ 7779 f = moM x.2.1.1 x.2.2.1 ∧ μ 7797 f = if 0 < x.2.1.1 then (x.2.1.2 : Int) else -2) ∧ tMp μ f x.2.2.1 ∧ μ 7783 f = (if x.1 < 0 then -2 else x.1) ∧ ∃ is : Int, μ 7803 f = is ∧ (is < 0 ↔ x.2.2.2.2.2.2 = none)
theorem tMp.to {f : Nat} {m : Option (Nat × Tr)} (h : tMp ν f m) (g : ∀ a, 7775 ≤ a → a ≤ 7805 → a ≠ 7778 → a ≠ 7780 → a ≠ 7781 → a ≠ 7784 → a ≠ 7785 → a ≠ 7787 → μ a f = ν a f) : tMp μ f m := sorry
theorem tFw.to {f : Nat} {x : Fe} (h : tFw ν f x) (g : ∀ a, 7775 ≤ a → a ≤ 7805 → a ≠ 7778 → a ≠ 7780 → a ≠ 7781 → a ≠ 7784 → a ≠ 7785 → a ≠ 7787 → μ a f = ν a f) : tFw μ f x := sorry
theorem tFw.wo {f : Nat} {x : Fe} (h : tFw ν f x) (g : frWo ν μ) : tFw μ f x := sorry
theorem tTs.wo (h : tTs μ D) (f : frWo μ μ') : tTs μ' D := sorry
def hasD (x : Fe) : Int := if x.2.2.2.2.2.2 = none then 0 else 1
noncomputable def jf281 (d f : Nat) (h : Int) (μ : ab_M) : ab_R := ab_run wt (d + 2) 119 281 [(2, 7756), (0, (f : Int)), (3, 0)] [(0, h), (0, (f : Int)), (2, 7784)] μ
theorem tw_jf99 {f : Nat} {x : Fe} (f1 : f < 3600) (ts : tTs μ D) (h : tFw μ f x) (o : feO x) : jGo (ab_run wt (d + 2) 119 99 [(2, 7756), (0, f), (3, 0)] [] μ) μ (jf281 d f (hasD x)) (fun X Y => Fm1 x X Y ∨ Fm2 x X Y ∨ Fm3 D x X Y ∨ Fm4 x X Y) := sorry
def frJf (f : Nat) (μ μ' : ab_M) : Prop := ∀ a i, (a ≠ 7756 ∨ i ≠ 127 ∧ i ≠ 128) → (i ≠ f ∨ a ≠ 7778 ∧ a ≠ 7780 ∧ a ≠ 7781 ∧ a ≠ 7784 ∧ a ≠ 7785 ∧ a ≠ 7787) → μ' a i = μ a i
theorem frJf.trans {f : Nat} (g : frJf f μ μ') (h : frJf f μ' μ'') : frJf f μ μ'' := sorry
theorem frWo.f {f : Nat} (h : frWo μ μ') : frJf f μ μ' := sorry
theorem frWv.f {f : Nat} (h : frWv f μ μ') : frJf f μ μ' := sorry
theorem frJf.up {f a : Nat} {w : Int} (h : a = 7778 ∨ a = 7780 ∨ a = 7781 ∨ a = 7784 ∨ a = 7785 ∨ a = 7787) : frJf f μ (ab_up μ a f w) := sorry
theorem tTs.jf {f : Nat} (h : tTs μ D) (g : frJf f μ μ') : tTs μ' D := sorry
def dvQ (D : Dr) (x : Fe) (f : Nat) (μ : ab_M) : Option Vl → Prop
  | none => μ 7785 f = (if kdF D x.2.2.2.1 = 11 then cnN D (tyX D x.2.2.2.1).toNat 0 else 0) ∧ μ 7787 f = 0
  | some v => vW D x v = 0 → kdF D x.2.2.2.1 ≠ 99 → if kdF D x.2.2.2.1 = 9 ∨ kdF D x.2.2.2.1 = 10 then μ 7787 f = v.2.2.1.length ∧ v.2.2.1.length ≤ 60 ∧ tBy μ 7806 (60 * f) v.2.2.1 else μ 7785 f = dVs D x v
def tJf (D : Dr) (x : Fe) (f : Nat) (μ : ab_M) : Prop := (μ 7778 f = w32 x.2.2.2.2.2.1.1 ∧ μ 7781 f = tyX D x.2.2.2.1 ∧ μ 7780 f = kdF D x.2.2.2.1 ∧ μ 7784 f = hasD x) ∧ dvQ D x f μ x.2.2.2.2.2.2
theorem vW_text {x : Fe} {v : Vl} (h : vW D x v = 0) (h1 : kdF D x.2.2.2.1 ≠ 99) (h2 : kdF D x.2.2.2.1 = 9 ∨ kdF D x.2.2.2.1 = 10) : v.1 = 3 := sorry
theorem tw_defaultOf {f : Nat} {x : Fe} (f1 : f < 3600) (ts : tTs μ D) (h1 : μ 7780 f = kdF D x.2.2.2.1) (h2 : μ 7781 f = tyX D x.2.2.2.1) (ot : trO x.2.2.2.1) : ∃ μ', (ab_run wt (d + 1) 36 0 [(2, 7756), (0, f)] [] μ) = some ((3, 0), μ') ∧ frJf f μ μ' ∧ μ' 7780 f = μ 7780 f ∧ μ' 7781 f = μ 7781 f ∧ μ' 7778 f = μ 7778 f ∧ μ' 7784 f = μ 7784 f ∧ μ' 7756 127 = μ 7756 127 ∧ μ' 7756 128 = μ 7756 128 ∧ dvQ D x f μ' none := sorry
theorem tVo.to {f : Nat} {v : Option Vl} (h : tVo ν f v) (g : ∀ a, (7802 ≤ a ∧ a ≤ 7805 ∨ a = 7785 ∨ a = 7787) → μ a f = ν a f) (g2 : ∀ i, μ 7806 i = ν 7806 i) : tVo μ f v := sorry
theorem tw_jfT {f : Nat} {x : Fe} (f1 : f < 3600) (ts : tTs ν D) (hw : tFw ν f x) (hv : tVo ν f x.2.2.2.2.2.2) (h1 : ν 7780 f = kdF D x.2.2.2.1) (h2 : ν 7781 f = tyX D x.2.2.2.1) (h3 : ν 7778 f = w32 x.2.2.2.2.2.1.1) (o : feO x) : jGx (fun μ' => frJf f ν μ' ∧ tJf D x f μ') (ab_run wt (d + 3) 119 99 [(2, 7756), (0, f), (3, 0)] [] ν) ν (fun μ => some ((3, 0), μ)) (fun X Y => Fm1 x X Y ∨ Fm2 x X Y ∨ Fm3 D x X Y ∨ Fm4 x X Y ∨ Fm5 D x X Y) := sorry
end Yq
end
section
section Yr
variable {μ μ' μ'' μ0 ν : ab_M} {d : Nat} {D : Dr}
theorem tFe.w {f : Nat} {x : Fe} (h : tFe μ f x) (o : feO x) : tFw μ f x := sorry
theorem tw_judgeField {f : Nat} {x : Fe} (f1 : f < 3600) (ts : tTs μ D) (h : tFe μ f x) (o : feO x) : jGx (fun μ' => frJf f μ μ' ∧ tJf D x f μ') (ab_run wt (d + 3) 119 0 [(2, 7756), (0, f), (3, 0)] [] μ) μ (fun μ => some ((3, 0), μ)) (Ff D x) := sorry
end Yr
end
section
section Ys
variable {μ μ' μ'' μ0 ν : ab_M} {d : Nat} {D : Dr}
def tFq (μ : ab_M) (f : Nat) (x : Fe) : Prop := (tNm (μ 7775 f) (μ 7776 f) x.2.2.2.2.1.1 ∧ nmT x.2.2.2.2.1.1) ∧ μ 7777 f = x.2.2.2.2.1.2.1 ∧ μ 7796 f = x.2.2.2.2.2.1.1 ∧ μ 7795 f = x.2.2.2.2.2.1.2
theorem tFq.to {f : Nat} {x : Fe} (h : tFq ν f x) (g : ∀ a, (7775 ≤ a ∧ a ≤ 7777 ∨ a = 7795 ∨ a = 7796) → μ a f = ν a f) : tFq μ f x := sorry
def tRq (μ : ab_M) (t : Nat) (F : List Fe) (O : List Nm) (K : List (Nat × Int × Nat)) : Prop := (μ 7769 t = F.length ∧ F.length ≤ 24) ∧ (μ 7770 t = O.length ∧ O.length ≤ 8) ∧ (∀ (j : Nat) (x : Fe), F[j]? = some x → tFq μ (24 * t + j) x) ∧ (∀ (o : Nat) (x : Nm), O[o]? = some x → tOn μ (8 * t + o) x ∧ nmT x.1) ∧ tKq μ K ∧ K.length ≤ 2200
theorem tRq.to {t : Nat} {F : List Fe} {O : List Nm} {K : List (Nat × Int × Nat)} (h : tRq ν t F O K) (g : ∀ a i, (a = 7769 ∨ a = 7770 ∨ 7775 ≤ a ∧ a ≤ 7777 ∨ a = 7795 ∨ a = 7796 ∨ 7807 ≤ a ∧ a ≤ 7812 ∨ 7853 ≤ a ∧ a ≤ 7855 ∨ a = 7756 ∧ i = 110) → μ a i = ν a i) : tRq μ t F O K := sorry
theorem tRq.wo {t : Nat} {F : List Fe} {O : List Nm} {K : List (Nat × Int × Nat)} (h : tRq ν t F O K) (g : frWo ν μ) : tRq μ t F O K := sorry
theorem tRq.jf {t f : Nat} {F : List Fe} {O : List Nm} {K : List (Nat × Int × Nat)} (h : tRq ν t F O K) (g : frJf f ν μ) : tRq μ t F O K := sorry
variable {t : Nat} {F : List Fe} {O : List Nm} {K : List (Nat × Int × Nat)}
def Fg1 (F : List Fe) (j : Nat) (b : Fe) (X Y : Int) : Prop := ∃ i, 0 ≤ i ∧ i < j ∧ ∃ a, F[i]? = some a ∧ (a.2.2.2.2.1.1 = b.2.2.2.2.1.1 ∧ X = b.2.2.2.2.1.2.1 ∧ Y = 4 ∨ a.2.2.2.2.2.1.1 = b.2.2.2.2.2.1.1 ∧ X = b.2.2.2.2.2.1.2 ∧ Y = 6)
def Fg2 (O : List Nm) (b : Fe) (X Y : Int) : Prop := ∃ o, 0 ≤ o ∧ o < O.length ∧ ∃ a, O[o]? = some a ∧ a.1 = b.2.2.2.2.1.1 ∧ X = (if b.2.2.2.2.1.2.1 < a.2.1 then ((a.2.1 : Nat) : Int) else (b.2.2.2.2.1.2.1 : Nat)) ∧ Y = 4
def Fg3 (t : Nat) (K : List (Nat × Int × Nat)) (b : Fe) (X Y : Int) : Prop := ∃ k, 0 ≤ k ∧ k < K.length ∧ ∃ a, K[k]? = some a ∧ (a.1 = t ∧ a.2.1 = b.2.2.2.2.2.1.1) ∧ X = (if b.2.2.2.2.2.1.2 < a.2.2 then ((a.2.2 : Nat) : Int) else (b.2.2.2.2.2.1.2 : Nat)) ∧ Y = 6
def Fg4 (b : Fe) (X Y : Int) : Prop := (b.2.2.2.2.2.1.1 < 1 ∨ 2000 < b.2.2.2.2.2.1.1) ∧ X = b.2.2.2.2.2.1.2 ∧ Y = 6
theorem tw_jr22 (t1 : t < 150) (h : tRq μ t F O K) {j : Nat} {b : Fe} (eb : F[j]? = some b) : jGo (ab_run wt (d + 2) 124 22 [(2, 7756), (0, t), (0, (((24 * t : Nat) : Int))), (0, (((24 * t + j : Nat) : Int))), (0, (((24 * t + 0 : Nat) : Int)))] [] μ) μ (fun μ => (ab_run wt (d + 2) 124 114 [(2, 7756), (0, t), (0, (((24 * t : Nat) : Int))), (0, (((24 * t + j : Nat) : Int))), (0, (((8 * t + 0 : Nat) : Int)))] [] μ)) (Fg1 F j b) := sorry
theorem tw_jr114 (t1 : t < 150) (h : tRq μ t F O K) {j : Nat} {b : Fe} (eb : F[j]? = some b) : jGo (ab_run wt (d + 2) 124 114 [(2, 7756), (0, t), (0, (((24 * t : Nat) : Int))), (0, (((24 * t + j : Nat) : Int))), (0, (((8 * t + 0 : Nat) : Int)))] [] μ) μ (fun μ => (ab_run wt (d + 2) 124 210 [(2, 7756), (0, t), (0, (((24 * t : Nat) : Int))), (0, (((24 * t + j : Nat) : Int))), (0, (((0 : Nat) : Int)))] [] μ)) (Fg2 O b) := sorry
theorem tw_jr210 (t1 : t < 150) (h : tRq μ t F O K) {j : Nat} {b : Fe} (eb : F[j]? = some b) : jGo (ab_run wt (d + 2) 124 210 [(2, 7756), (0, t), (0, (((24 * t : Nat) : Int))), (0, (((24 * t + j : Nat) : Int))), (0, (((0 : Nat) : Int)))] [] μ) μ (fun μ => (ab_run wt (d + 2) 124 210 [(2, 7756), (0, t), (0, (((24 * t : Nat) : Int))), (0, (((24 * t + j : Nat) : Int))), (0, (((K.length : Nat) : Int)))] [] μ)) (Fg3 t K b) := sorry
noncomputable def jrK (d t j : Nat) (μ : ab_M) : ab_R := ab_cal (ab_run wt (d + 1) 119 0 [(2, 7756), (0, (((24 * t + j : Nat) : Int))), (3, 0)] [] μ) 3 (fun r1 μ1 => some ((4, r1), μ1)) (fun _ μ1 => (ab_run wt (d + 2) 124 7 [(2, 7756), (0, t), (0, (((24 * t : Nat) : Int))), (0, (((24 * t + (j + 1) : Nat) : Int))), (3, 0)] [] μ1))
theorem tw_jr7 (t1 : t < 150) (h : tRq μ t F O K) {j : Nat} {b : Fe} (eb : F[j]? = some b) : jGo (ab_run wt (d + 2) 124 7 [(2, 7756), (0, t), (0, (((24 * t : Nat) : Int))), (0, (((24 * t + j : Nat) : Int))), (3, 0)] [] μ) μ (jrK d t j) (fun X Y => Fg1 F j b X Y ∨ Fg2 O b X Y ∨ Fg3 t K b X Y ∨ Fg4 b X Y) := sorry
end Ys
end
section
section Yt
variable {μ μ' μ'' μ0 ν : ab_M} {d : Nat} {D : Dr} {t : Nat} {F : List Fe} {O : List Nm} {K : List (Nat × Int × Nat)}
theorem jLoopX {R : Nat → ab_M → ab_R} {L : ab_M → ab_R} {G : Nat → Int → Int → Prop} {Iv : Nat → ab_M → Prop} {n : Nat} (step : ∀ i, i < n → ∀ μ, Iv i μ → jGx (Iv (i + 1)) (R i μ) μ (R (i + 1)) (G i)) (fin : ∀ μ, Iv n μ → R n μ = L μ) : ∀ (m i : Nat), i + m = n → ∀ μ, Iv i μ → jGx (Iv n) (R i μ) μ L (fun x y => ∃ k, i ≤ k ∧ k < n ∧ G k x y) := sorry
def frJr (t j : Nat) (μ μ' : ab_M) : Prop := ∀ a i, (a ≠ 7756 ∨ i ≠ 127 ∧ i ≠ 128) → ((i < 24 * t ∨ 24 * t + j ≤ i) ∨ a ≠ 7778 ∧ a ≠ 7780 ∧ a ≠ 7781 ∧ a ≠ 7784 ∧ a ≠ 7785 ∧ a ≠ 7787) → μ' a i = μ a i
theorem dvQ.to {x : Fe} {f : Nat} {v : Option Vl} (h : dvQ D x f ν v) (g : μ 7785 f = ν 7785 f) (g1 : μ 7787 f = ν 7787 f) (g2 : ∀ i, μ 7806 i = ν 7806 i) : dvQ D x f μ v := sorry
theorem tJf.to {x : Fe} {f : Nat} (h : tJf D x f ν) (g : ∀ a, 7775 ≤ a → a ≤ 7805 → μ a f = ν a f) (g2 : ∀ i, μ 7806 i = ν 7806 i) : tJf D x f μ := sorry
def Fg5 (O : List Nm) (X Y : Int) : Prop := ∃ o, 0 ≤ o ∧ o < O.length ∧ ∃ b, O[o]? = some b ∧ ∃ p, 0 ≤ p ∧ p < o ∧ ∃ a, O[p]? = some a ∧ b.1 = a.1 ∧ X = b.2.1 ∧ Y = 4
def Fg6 (t : Nat) (K : List (Nat × Int × Nat)) (X Y : Int) : Prop := ∃ k, 0 ≤ k ∧ k < K.length ∧ ∃ b, K[k]? = some b ∧ ((b.1 = t ∧ (b.2.1 < 1 ∨ 2000 < b.2.1)) ∧ X = b.2.2 ∧ Y = 6 ∨ ∃ i, 0 ≤ i ∧ i < k ∧ ∃ a, K[i]? = some a ∧ (b.1 = t ∧ a.1 = t ∧ b.2.1 = a.2.1) ∧ X = b.2.2 ∧ Y = 6)
theorem tw_jr343 (t1 : t < 150) (h : tRq μ t F O K) : jGo (ab_run wt (d + 2) 124 343 [(2, 7756), (0, t), (3, 0), (0, (((8 * t + 0 : Nat) : Int))), (3, 0)] [] μ) μ (fun μ => (ab_run wt (d + 2) 124 429 [(2, 7756), (0, t), (3, 0), (0, (((0 : Nat) : Int))), (3, 0)] [] μ)) (Fg5 O) := sorry
theorem tw_jr429 (t1 : t < 150) (h : tRq μ t F O K) : jGo (ab_run wt (d + 2) 124 429 [(2, 7756), (0, t), (3, 0), (0, (((0 : Nat) : Int))), (3, 0)] [] μ) μ (fun μ => some ((3, 0), μ)) (Fg6 t K) := sorry
def Frw (D : Dr) (t : Nat) (F : List Fe) (O : List Nm) (K : List (Nat × Int × Nat)) (X Y : Int) : Prop := (∃ j, 0 ≤ j ∧ j < F.length ∧ ∃ b, F[j]? = some b ∧ ((Fg1 F j b X Y ∨ Fg2 O b X Y ∨ Fg3 t K b X Y ∨ Fg4 b X Y) ∨ Ff D b X Y)) ∨ Fg5 O X Y ∨ Fg6 t K X Y
theorem tw_judgeRecord (t1 : t < 150) (ts : tTs μ D) (h : tRq μ t F O K) (hF : ∀ (j : Nat) (x : Fe), F[j]? = some x → tFe μ (24 * t + j) x ∧ feO x) : jGx (fun μ' => frJr t F.length μ μ' ∧ ∀ (j : Nat) (x : Fe), F[j]? = some x → tJf D x (24 * t + j) μ') (ab_run wt (d + 4) 124 0 [(2, 7756), (0, t), (3, 0), (3, 0), (3, 0)] [] μ) μ (fun μ => some ((3, 0), μ)) (Frw D t F O K) := sorry
end Yt
end
section
section Yu
variable {μ μ' μ'' μ0 ν : ab_M} {d : Nat} {D : Dr} {v c : Nat} {C : List Nm} {L : List Sp} {M : List Nd}
def tyFs (D : Dr) (k : Nat) : List Fe := ((D.1[k]?).map fun x => evF x.2.2.2.2).getD []
def tRk (μ : ab_M) (D : Dr) : Prop := ∀ k, k < D.1.length → tyR D k = 1 → (μ 7769 (120 + k) = (tyFs D k).length ∧ (tyFs D k).length ≤ 24) ∧ ∀ (j : Nat) (x : Fe), (tyFs D k)[j]? = some x → tFq μ (24 * (120 + k) + j) x ∧ μ 7779 (24 * (120 + k) + j) = moM x.2.1.1 x.2.2.1 ∧ μ 7780 (24 * (120 + k) + j) = kdF D x.2.2.2.1
theorem tRk.to (h : tRk ν D) (g : ∀ a i, (a = 7769 ∨ 7775 ≤ a ∧ a ≤ 7805) → μ a i = ν a i) : tRk μ D := sorry
def tCz (μ : ab_M) (v : Nat) (C : List Nm) : Prop := (μ 7823 v = C.length ∧ C.length ≤ 8) ∧ ∀ (i : Nat) (x : Nm), C[i]? = some x → (tNm (μ 7826 (8 * v + i)) (μ 7827 (8 * v + i)) x.1 ∧ nmT x.1) ∧ μ 7828 (8 * v + i) = x.2.1
theorem tCz.to (h : tCz ν v C) (g : ∀ a i, (a = 7823 ∨ 7826 ≤ a ∧ a ≤ 7828) → μ a i = ν a i) : tCz μ v C := sorry
def clG (C : List Nm) (i : Nat) : List Int := ((C[i]?).map fun x => x.1).getD []
def clF (C : List Nm) (nm : List Int) : Int := nFd (clG C) nm C.length 0
def fdG (D : Dr) (k i : Nat) : List Int := (((tyFs D k)[i]?).map fun x => x.2.2.2.2.1.1).getD []
def fdF (D : Dr) (k : Nat) (nm : List Int) : Int := nFd (fdG D k) nm (tyFs D k).length 0
theorem tCz.find (h : tCz μ v C) (v2 : v < 20) {nm : List Int} (hn : nmT nm) : (ab_run wt (d + 1) 62 0 [(2, 7756), (0, v), (1, (nmk nm 0 8)), (3, 0), (1, (nmk nm 8 8)), (3, 0), (3, 0)] [] μ) = some ((0, if clF C nm < 0 then -2 else clF C nm), μ) := sorry
theorem tRk.find (h : tRk μ D) {k : Nat} (k1 : k < D.1.length) (k30 : D.1.length ≤ 30) (k2 : tyR D k = 1) {nm : List Int} (hn : nmT nm) : (ab_run wt (d + 1) 64 0 [(2, 7756), (0, (((120 + k : Nat) : Int))), (1, (nmk nm 0 8)), (3, 0), (1, (nmk nm 8 8)), (3, 0), (3, 0)] [] μ) = some ((0, if fdF D k nm < 0 then -2 else fdF D k nm), μ) := sorry
theorem fdF_rg {k : Nat} {nm : List Int} : fdF D k nm < 0 ∨ ∃ j : Nat, fdF D k nm = j ∧ j < (tyFs D k).length := sorry
def fBad (D : Dr) (k j : Nat) : Prop := ∃ x, (tyFs D k)[j]? = some x ∧ (1 < moM x.2.1.1 x.2.2.1 ∨ ¬ (0 ≤ kdF D x.2.2.2.1 ∧ kdF D x.2.2.2.1 ≤ 8 ∨ kdF D x.2.2.2.1 = 11))
noncomputable def spWr (D : Dr) (C : List Nm) (sec : Int) (y : Sp) : Int := by
  classical
  exact if y.1 = 0 then (if clF C y.2.1.1 < 0 then 5 else 0) else if y.1 = 1 ∧ 0 ≤ sec then (if fdF D sec.toNat y.2.1.1 < 0 then 5 else if fBad D sec.toNat (fdF D sec.toNat y.2.1.1).toNat then 7 else 0) else 0
def soV (D : Dr) (C : List Nm) (sec : Int) (y : Sp) : Int := if y.1 = 0 then clF C y.2.1.1 else fdF D sec.toNat y.2.1.1
def rcI (D : Dr) (k : Int) : Prop := k = -2 ∨ ∃ n : Nat, k = n ∧ n < D.1.length ∧ tyR D n = 1
def soQ (D : Dr) (C : List Nm) (sec : Int) (y : Sp) (i : Nat) (μ : ab_M) : Prop := (y.1 = 0 ∨ y.1 = 1 ∧ 0 ≤ sec) → μ 7843 i = if soV D C sec y < 0 then -2 else soV D C sec y
def frJs (c i : Nat) (μ μ' : ab_M) : Prop := ∀ a k, (a ≠ 7756 ∨ k ≠ 127 ∧ k ≠ 128) → (a ≠ 7843 ∨ k < 100 * c ∨ 100 * c + i ≤ k) → μ' a k = μ a k
theorem tw_jc5 (v2 : v < 20) (c2 : c < 200) (cs : tCz μ v C) (rk : tRk μ D) (k30 : D.1.length ≤ 30) {sec : Int} (hs : μ 7836 c = sec) (hr : rcI D sec) (hn : μ 7837 c = L.length) (l100 : L.length ≤ 100) (hL : ∀ (i : Nat) (y : Sp), L[i]? = some y → μ 7842 (100 * c + i) = y.1 ∧ (y.1 = 0 ∨ y.1 = 1 ∨ y.1 = 2) ∧ (y.1 = 0 ∨ y.1 = 1 → (tNm (μ 7846 (100 * c + i)) (μ 7847 (100 * c + i)) y.2.1.1 ∧ nmT y.2.1.1) ∧ μ 7845 (100 * c + i) = y.2.1.2.1)) : jGx (fun μ' => frJs c L.length μ μ' ∧ ∀ (i : Nat) (y : Sp), i < L.length → L[i]? = some y → soQ D C sec y (100 * c + i) μ') (ab_run wt (d + 2) 117 5 [(2, 7756), (0, v), (0, c), (0, (((100 * c + 0 : Nat) : Int))), (3, 0), (3, 0)] [] μ) μ (fun μ => (ab_run wt (d + 2) 117 213 [(2, 7756), (0, v), (0, c), (0, (((100 * c + 0 : Nat) : Int))), (3, 0), (3, 0)] [] μ)) (fun X Y => ∃ i, 0 ≤ i ∧ i < L.length ∧ ∃ y, L[i]? = some y ∧ spWr D C sec y ≠ 0 ∧ X = y.2.1.2.1 ∧ Y = spWr D C sec y) := sorry
end Yu
end
section
section Yv
variable {μ μ' μ'' μ0 ν : ab_M} {d : Nat} {D : Dr} {v c : Nat} {C : List Nm} {L : List Sp} {M : List Nd}
theorem twOp_1 {x : Int} : (twOp x = 1 ↔ x = 1) ∧ (twOp x = 2 ↔ x = 2) := sorry
def ndWr (D : Dr) (C : List Nm) (fst : Int) (y : Nd) : Int := if y.1 = 1 then (if clF C y.2.2.1 < 0 then 5 else 0) else if y.1 = 2 ∧ 0 ≤ fst then (if fdF D fst.toNat y.2.2.1 < 0 then 5 else 0) else 0
def ndV (D : Dr) (C : List Nm) (fst : Int) (y : Nd) : Int := if y.1 = 1 then clF C y.2.2.1 else fdF D fst.toNat y.2.2.1
def ndQ (D : Dr) (C : List Nm) (fst : Int) (y : Nd) (i : Nat) (μ : ab_M) : Prop := (y.1 = 0 → μ 7849 i = y.2.1) ∧ ((y.1 = 1 ∨ y.1 = 2 ∧ 0 ≤ fst) → μ 7849 i = if ndV D C fst y < 0 then -2 else ndV D C fst y)
def frJn (c i : Nat) (μ μ' : ab_M) : Prop := ∀ a k, (a ≠ 7756 ∨ k ≠ 127 ∧ k ≠ 128) → (a ≠ 7849 ∨ k < 100 * c ∨ 100 * c + i ≤ k) → μ' a k = μ a k
theorem tw_jc213 (v2 : v < 20) (c2 : c < 200) (cs : tCz μ v C) (rk : tRk μ D) (k30 : D.1.length ≤ 30) {fst : Int} (hs : μ 7835 c = fst) (hr : rcI D fst) (hn : μ 7838 c = M.length) (l100 : M.length ≤ 100) (hM : ∀ (i : Nat) (y : Nd), M[i]? = some y → tNd μ (100 * c + i) y ∧ (y.1 = 1 ∨ y.1 = 2 → nmT y.2.2.1)) : jGx (fun μ' => frJn c M.length μ μ' ∧ ∀ (i : Nat) (y : Nd), i < M.length → M[i]? = some y → ndQ D C fst y (100 * c + i) μ') (ab_run wt (d + 2) 117 213 [(2, 7756), (0, v), (0, c), (0, (((100 * c + 0 : Nat) : Int))), (3, 0), (3, 0)] [] μ) μ (fun μ => some ((3, 0), μ)) (fun X Y => ∃ i, 0 ≤ i ∧ i < M.length ∧ ∃ y, M[i]? = some y ∧ ndWr D C fst y ≠ 0 ∧ X = y.2.2.2.1 ∧ Y = ndWr D C fst y) := sorry
def rcF (D : Dr) (nm : List Int) : Int := if tyF D nm < 0 then -2 else if tyR D (tyF D nm).toNat = 0 then -2 else tyF D nm
theorem rcF_rg (h : ∀ k, k < D.1.length → tyR D k = 0 ∨ tyR D k = 1) {nm : List Int} : rcI D (rcF D nm) := sorry
theorem tw_callRecord {k : Nat} {x : Nm} (k4 : k < 400) (ts : tTs μ D) (h : tNm (μ 7839 k) (μ 7840 k) x.1) (hn : nmT x.1) (ha : μ 7841 k = x.2.1) : jGo (ab_run wt (d + 2) 20 0 [(2, 7756), (0, k), (3, 0)] [] μ) μ (fun μ => some ((0, rcF D x.1), μ)) (fun X Y => rcF D x.1 = -2 ∧ X = x.2.1 ∧ Y = 5) := sorry
end Yv
end
section
section Yw
variable {μ μ' μ'' μ0 ν : ab_M} {d : Nat} {D : Dr} {v c : Nat} {C : List Nm}
def ctO (x : Cl) : Prop := nmT x.1.1 ∧ nmT x.2.1.1 ∧ nmT x.2.2.1.1 ∧ (∀ y ∈ x.2.2.2.2, (y.1 = 0 ∨ y.1 = 1 ∨ y.1 = 2) ∧ nmT y.2.1.1) ∧ ∀ y ∈ ndS x.2.2.2.2, nmT y.2.2.1
def Fc (D : Dr) (C : List Nm) (x : Cl) (X Y : Int) : Prop := (rcF D x.2.1.1 = -2 ∧ X = x.2.1.2.1 ∧ Y = 5) ∨ (rcF D x.2.2.1.1 = -2 ∧ X = x.2.2.1.2.1 ∧ Y = 5) ∨ (∃ i, 0 ≤ i ∧ i < x.2.2.2.2.length ∧ ∃ y, x.2.2.2.2[i]? = some y ∧ spWr D C (rcF D x.2.2.1.1) y ≠ 0 ∧ X = y.2.1.2.1 ∧ Y = spWr D C (rcF D x.2.2.1.1) y) ∨ (∃ i, 0 ≤ i ∧ i < (ndS x.2.2.2.2).length ∧ ∃ y, (ndS x.2.2.2.2)[i]? = some y ∧ ndWr D C (rcF D x.2.1.1) y ≠ 0 ∧ X = y.2.2.2.1 ∧ Y = ndWr D C (rcF D x.2.1.1) y)
def tJc (D : Dr) (C : List Nm) (x : Cl) (c : Nat) (μ : ab_M) : Prop := (μ 7832 c = w32 x.2.2.2.1.1 ∧ μ 7835 c = rcF D x.2.1.1 ∧ μ 7836 c = rcF D x.2.2.1.1) ∧ (∀ (i : Nat) (y : Sp), x.2.2.2.2[i]? = some y → soQ D C (rcF D x.2.2.1.1) y (100 * c + i) μ) ∧ ∀ (i : Nat) (y : Nd), (ndS x.2.2.2.2)[i]? = some y → ndQ D C (rcF D x.2.1.1) y (100 * c + i) μ
def frJc (c : Nat) (μ μ' : ab_M) : Prop := ∀ a k, (a ≠ 7756 ∨ k ≠ 127 ∧ k ≠ 128) → (a ≠ 7832 ∧ a ≠ 7835 ∧ a ≠ 7836 ∨ k ≠ c) → (a ≠ 7843 ∧ a ≠ 7849 ∨ k / 100 ≠ c) → μ' a k = μ a k
theorem frJc.trans (f : frJc c μ μ') (g : frJc c μ' μ'') : frJc c μ μ'' := sorry
theorem frWo.jc (h : frWo μ μ') : frJc c μ μ' := sorry
theorem frJs.jc {i : Nat} (hi : i ≤ 100) (h : frJs c i μ μ') : frJc c μ μ' := sorry
theorem frJn.jc {i : Nat} (hi : i ≤ 100) (h : frJn c i μ μ') : frJc c μ μ' := sorry
theorem frJc.up {a : Nat} {w : Int} (h : a = 7832 ∨ a = 7835 ∨ a = 7836) : frJc c μ (ab_up μ a c w) := sorry
theorem tTs.jc (h : tTs μ D) (g : frJc c μ μ') : tTs μ' D := sorry
theorem tRk.jc (h : tRk μ D) (g : frJc c μ μ') : tRk μ' D := sorry
theorem tCz.jc (h : tCz μ v C) (g : frJc c μ μ') : tCz μ' v C := sorry
theorem tw_jv304 {x : Cl} {a b : Int} (v2 : v < 20) (c2 : c < 200) (ts : tTs μ D) (rk : tRk μ D) (cs : tCz μ v C) (h : tCl μ c x) (o : ctO x) : jGx (fun μ' => frJc c μ μ' ∧ tJc D C x c μ') (ab_run wt (d + 3) 125 304 [(2, 7756), (0, v), (0, a), (0, b), (0, c), (3, 0)] [] μ) μ (fun μ => (ab_run wt (d + 3) 125 99 [(2, 7756), (0, v), (0, a), (0, b), (0, (((c + 1 : Nat) : Int))), (3, 0)] [] μ)) (Fc D C x) := sorry
end Yw
end
section
section Yx
variable {μ μ' μ'' μ0 ν : ab_M} {d : Nat} {D : Dr} {v : Nat} {C : List Nm} {L : List Cl}
def tKz (μ : ab_M) (c : Nat) (x : Cl) : Prop := (tNm (μ 7829 c) (μ 7830 c) x.1.1 ∧ nmT x.1.1) ∧ μ 7831 c = x.1.2.1 ∧ μ 7834 c = x.2.2.2.1.1 ∧ μ 7833 c = x.2.2.2.1.2
def tVz (μ : ab_M) (v : Nat) (C : List Nm) (L : List Cl) : Prop := tCz μ v C ∧ (μ 7822 v = L.length ∧ L.length ≤ 10) ∧ ∀ (j : Nat) (x : Cl), L[j]? = some x → tKz μ (10 * v + j) x
theorem tVz.to (h : tVz ν v C L) (g : ∀ a i, (7822 ≤ a ∧ a ≤ 7834 ∧ a ≠ 7832) → μ a i = ν a i) : tVz μ v C L := sorry
theorem tVz.wo (h : tVz ν v C L) (g : frWo ν μ) : tVz μ v C L := sorry
def Fv1 (C : List Nm) (X Y : Int) : Prop := ∃ o, 0 ≤ o ∧ o < C.length ∧ ∃ b, C[o]? = some b ∧ ∃ p, 0 ≤ p ∧ p < o ∧ ∃ a, C[p]? = some a ∧ b.1 = a.1 ∧ X = b.2.1 ∧ Y = 4
theorem tw_jv13 (v2 : v < 20) (h : tVz μ v C L) : jGo (ab_run wt (d + 2) 125 13 [(2, 7756), (0, v), (0, (((8 * v : Nat) : Int))), (0, (((10 * v : Nat) : Int))), (0, (((8 * v + 0 : Nat) : Int))), (3, 0)] [] μ) μ (fun μ => (ab_run wt (d + 2) 125 99 [(2, 7756), (0, v), (0, (((8 * v : Nat) : Int))), (0, (((10 * v : Nat) : Int))), (0, (((10 * v + 0 : Nat) : Int))), (3, 0)] [] μ)) (Fv1 C) := sorry
end Yx
end
section
section Yy
variable {μ μ' μ'' μ0 ν : ab_M} {d : Nat} {D : Dr} {v : Nat} {C : List Nm} {L : List Cl}
def Fv2 (C : List Nm) (b : Cl) (X Y : Int) : Prop := ∃ o, 0 ≤ o ∧ o < C.length ∧ ∃ a, C[o]? = some a ∧ b.1.1 = a.1 ∧ X = b.1.2.1 ∧ Y = 4
def Fv3 (L : List Cl) (j : Nat) (b : Cl) (X Y : Int) : Prop := ∃ i, 0 ≤ i ∧ i < j ∧ ∃ a, L[i]? = some a ∧ (b.1.1 = a.1.1 ∧ X = b.1.2.1 ∧ Y = 4 ∨ b.2.2.2.1.1 = a.2.2.2.1.1 ∧ X = b.2.2.2.1.2 ∧ Y = 6)
def Fv4 (b : Cl) (X Y : Int) : Prop := 1000 < b.2.2.2.1.1 ∧ X = b.2.2.2.1.2 ∧ Y = 6
theorem tw_jv115 (v2 : v < 20) (h : tVz μ v C L) {j : Nat} {b : Cl} (eb : L[j]? = some b) : jGo (ab_run wt (d + 2) 125 115 [(2, 7756), (0, v), (0, (((8 * v : Nat) : Int))), (0, (((10 * v : Nat) : Int))), (0, (((10 * v + j : Nat) : Int))), (0, (((8 * v + 0 : Nat) : Int)))] [] μ) μ (fun μ => (ab_run wt (d + 2) 125 185 [(2, 7756), (0, v), (0, (((8 * v : Nat) : Int))), (0, (((10 * v : Nat) : Int))), (0, (((10 * v + j : Nat) : Int))), (0, (((10 * v + 0 : Nat) : Int)))] [] μ)) (Fv2 C b) := sorry
theorem tw_jv185 (v2 : v < 20) (h : tVz μ v C L) {j : Nat} {b : Cl} (eb : L[j]? = some b) : jGo (ab_run wt (d + 2) 125 185 [(2, 7756), (0, v), (0, (((8 * v : Nat) : Int))), (0, (((10 * v : Nat) : Int))), (0, (((10 * v + j : Nat) : Int))), (0, (((10 * v + 0 : Nat) : Int)))] [] μ) μ (fun μ => (ab_run wt (d + 2) 125 304 [(2, 7756), (0, v), (0, (((8 * v : Nat) : Int))), (0, (((10 * v : Nat) : Int))), (0, (((10 * v + j : Nat) : Int))), (3, 0)] [] μ)) (fun X Y => Fv3 L j b X Y ∨ Fv4 b X Y) := sorry
end Yy
end
section
section Yz
variable {μ μ' μ'' μ0 ν : ab_M} {d : Nat} {D : Dr} {v c : Nat} {C : List Nm} {L : List Cl}
def frJv (v j : Nat) (μ μ' : ab_M) : Prop := ∀ a k, (a ≠ 7756 ∨ k ≠ 127 ∧ k ≠ 128) → (a ≠ 7832 ∧ a ≠ 7835 ∧ a ≠ 7836 ∨ k < 10 * v ∨ 10 * v + j ≤ k) → (a ≠ 7843 ∧ a ≠ 7849 ∨ k < 1000 * v ∨ 1000 * v + 100 * j ≤ k) → μ' a k = μ a k
theorem tJc.to {x : Cl} (h : tJc D C x c ν) (l : (ndS x.2.2.2.2).length ≤ 100) (l' : x.2.2.2.2.length ≤ 100) (g1 : ∀ a, a = 7832 ∨ a = 7835 ∨ a = 7836 → μ a c = ν a c) (g2 : ∀ a k, (a = 7843 ∨ a = 7849) → k / 100 = c → μ a k = ν a k) : tJc D C x c μ := sorry
def Fsv (D : Dr) (C : List Nm) (L : List Cl) (X Y : Int) : Prop := Fv1 C X Y ∨ ∃ j, 0 ≤ j ∧ j < L.length ∧ ∃ b, L[j]? = some b ∧ (Fv2 C b X Y ∨ (Fv3 L j b X Y ∨ Fv4 b X Y) ∨ Fc D C b X Y)
theorem tSb.vz (h : tSb μ v C L) (oC : ∀ x ∈ C, nmT x.1) (oL : ∀ x ∈ L, ctO x) : tVz μ v C L := sorry
theorem tw_judgeService (v2 : v < 20) (ts : tTs μ D) (rk : tRk μ D) (h : tSb μ v C L) (oC : ∀ x ∈ C, nmT x.1) (oL : ∀ x ∈ L, ctO x) : jGx (fun μ' => frJv v L.length μ μ' ∧ ∀ (j : Nat) (x : Cl), L[j]? = some x → tJc D C x (10 * v + j) μ') (ab_run wt (d + 3) 125 0 [(2, 7756), (0, v), (3, 0), (3, 0), (3, 0), (3, 0)] [] μ) μ (fun μ => some ((3, 0), μ)) (Fsv D C L) := sorry
end Yz
end
section
section Za
variable {μ μ' μ'' μ0 ν : ab_M} {d : Nat} {D : Dr}
def drO (D : Dr) : Prop := itOk D ∧ (∀ x ∈ D.1, (x.1 = 0 → 0 < x.2.2.2.1.length ∧ cnO x.2.2.2.1) ∧ (∀ y ∈ evF x.2.2.2.2, feO y ∧ nmT y.2.2.2.2.1.1) ∧ ∀ y ∈ evO x.2.2.2.2, nmT y.1) ∧ (∀ x ∈ D.2, (∀ y ∈ x.2.2.1, nmT y.1) ∧ ∀ y ∈ x.2.2.2, ctO y) ∧ (kpL 120 D.1).length ≤ 2200
def Fty (D : Dr) (k : Nat) (x : Td) (X Y : Int) : Prop := (x.1 = 1 ∧ Frw D (120 + k) (evF x.2.2.2.2) (evO x.2.2.2.2) (kpL 120 D.1) X Y) ∨ x.1 = 0 ∧ (F4n (x.2.2.2.1.map fun x => x.1) X Y ∨ F6n cFr (x.2.2.2.1.map fun x => x.2) X Y)
def FSt (D : Dr) (X Y : Int) : Prop := F4n (itNm D) X Y ∨ (∃ k, 0 ≤ k ∧ k < D.1.length ∧ ∃ x, D.1[k]? = some x ∧ Fty D k x X Y) ∨ ∃ v, 0 ≤ v ∧ v < D.2.length ∧ ∃ x, D.2[v]? = some x ∧ Fsv D x.2.2.1 x.2.2.2 X Y
theorem tDr.ts (h : tDr μ D) (o : drO D) : tTs μ D := sorry
def frJT (k : Nat) (μ μ' : ab_M) : Prop := ∀ a i, (a ≠ 7756 ∨ i ≠ 127 ∧ i ≠ 128) → ((i < 2880 ∨ 2880 + 24 * k ≤ i) ∨ a ≠ 7778 ∧ a ≠ 7780 ∧ a ≠ 7781 ∧ a ≠ 7784 ∧ a ≠ 7785 ∧ a ≠ 7787) → μ' a i = μ a i
theorem frJT.ty {k : Nat} {x : Td} (f : frJT k μ μ') (h : tTd μ (120 + k) x) : tTd μ' (120 + k) x := sorry
theorem frJT.kq {k : Nat} {K : List (Nat × Int × Nat)} (f : frJT k μ μ') (h : tKq μ K) : tKq μ' K := sorry
theorem frJT.ts {k : Nat} (f : frJT k μ μ') (h : tTs μ D) : tTs μ' D := sorry
def tJT (D : Dr) (n : Nat) (μ : ab_M) : Prop := ∀ (k : Nat) (x : Td), k < n → D.1[k]? = some x → x.1 = 1 → ∀ (j : Nat) (y : Fe), (evF x.2.2.2.2)[j]? = some y → tJf D y (24 * (120 + k) + j) μ
theorem tw_ja12 (h : tDr μ D) (o : drO D) : jGx (fun μ' => frJT D.1.length μ μ' ∧ tJT D D.1.length μ') (ab_run wt (d + 5) 116 12 [(2, 7756), (0, (((120 + 0 : Nat) : Int)))] [] μ) μ (fun μ => (ab_run wt (d + 5) 116 56 [(2, 7756), (0, (((16 + 0 : Nat) : Int)))] [] μ)) (fun X Y => ∃ k, 0 ≤ k ∧ k < D.1.length ∧ ∃ x, D.1[k]? = some x ∧ Fty D k x X Y) := sorry
end Za
end
section
section Zb
variable {μ μ' μ'' μ0 ν : ab_M} {d : Nat} {D : Dr}
def frJS (n : Nat) (μ μ' : ab_M) : Prop := ∀ a k, (a ≠ 7756 ∨ k ≠ 127 ∧ k ≠ 128) → (a ≠ 7832 ∧ a ≠ 7835 ∧ a ≠ 7836 ∨ k < 160 ∨ 160 + 10 * n ≤ k) → (a ≠ 7843 ∧ a ≠ 7849 ∨ k < 16000 ∨ 16000 + 1000 * n ≤ k) → μ' a k = μ a k
def tJS (D : Dr) (n : Nat) (μ : ab_M) : Prop := ∀ (v : Nat) (x : Sd), v < n → D.2[v]? = some x → ∀ (j : Nat) (y : Cl), x.2.2.2[j]? = some y → tJc D x.2.2.1 y (10 * (16 + v) + j) μ
theorem frJS.sd {n v : Nat} {x : Sd} (f : frJS n μ μ') (nv : n ≤ v) (h : tSd μ (16 + v) x) : tSd μ' (16 + v) x := sorry
noncomputable def jaE (d : Nat) (μ : ab_M) : ab_R := if 0 < μ 7756 127 then ab_cal (ab_run wt (d + 1) 340 0 [(2, 7756), (0, (μ 7756 127)), (0, (μ 7756 128))] [] μ) 0 (fun r1 μ1 => some ((4, r1), μ1)) (fun _ μ1 => if μ1 7756 127 = 0 then some ((0, 1), μ1) else some ((0, 0), μ1)) else if μ 7756 127 = 0 then some ((0, 1), μ) else some ((0, 0), μ)
theorem tw_ja56 (h : ∀ (v : Nat) (x : Sd), D.2[v]? = some x → tSd μ (16 + v) x) (hn : μ 7764 4 = D.2.length ∧ D.2.length ≤ 4) (ts : tTs μ D) (rk : tRk μ D) (o : drO D) : jGx (fun μ' => frJS D.2.length μ μ' ∧ tJS D D.2.length μ') (ab_run wt (d + 5) 116 56 [(2, 7756), (0, (((16 + 0 : Nat) : Int)))] [] μ) μ (fun μ => jaE (d + 3) μ) (fun X Y => ∃ v, 0 ≤ v ∧ v < D.2.length ∧ ∃ x, D.2[v]? = some x ∧ Fsv D x.2.2.1 x.2.2.2 X Y) := sorry
theorem F4n_p {L : List Nm} {X Y : Int} (h : F4n L X Y) : 0 < Y := sorry
theorem F6n_p {B : Int → Prop} {L : List (Int × Nat)} {X Y : Int} (h : F6n B L X Y) : 0 < Y := sorry
theorem vW_p {x : Fe} {v : Vl} : 0 ≤ vW D x v := sorry
theorem spWr_p {C : List Nm} {s : Int} {y : Sp} : 0 ≤ spWr D C s y := sorry
theorem ndWr_p {C : List Nm} {s : Int} {y : Nd} : 0 ≤ ndWr D C s y := sorry
theorem Frw_p {t : Nat} {F : List Fe} {O : List Nm} {K : List (Nat × Int × Nat)} {X Y : Int} (h : Frw D t F O K X Y) : 0 < Y := sorry
theorem Fsv_p {C : List Nm} {L : List Cl} {X Y : Int} (h : Fsv D C L X Y) : 0 < Y := sorry
theorem FSt_p {X Y : Int} (h : FSt D X Y) : 0 < Y := sorry
def frJa (μ μ' : ab_M) : Prop := ∀ a i, (a ≠ 7756 ∨ i ≠ 127 ∧ i ≠ 128) → (i < 2880 ∨ a ≠ 7778 ∧ a ≠ 7780 ∧ a ≠ 7781 ∧ a ≠ 7784 ∧ a ≠ 7785 ∧ a ≠ 7787) → (a ≠ 7832 ∧ a ≠ 7835 ∧ a ≠ 7836 ∨ i < 160) → (a ≠ 7843 ∧ a ≠ 7849 ∨ i < 16000) → μ' a i = μ a i
theorem frJa.sg (h : frJa μ μ') : frSg μ μ' := sorry
theorem tw_judgeAll (h : tDr μ D) (o : drO D) (ft : μ 7756 17 = 0) : ∃ w p, mnF (FSt D) w p ∧ (w ≠ 0 → Ft (ab_run wt (d + 6) 116 0 [(2, 7756), (3, 0)] [] μ) (frSg μ) w p) ∧ (w = 0 → ∃ μ', (ab_run wt (d + 6) 116 0 [(2, 7756), (3, 0)] [] μ) = some ((0, 1), μ') ∧ frJa μ μ' ∧ tJT D D.1.length μ' ∧ tJS D D.2.length μ') := sorry
end Zb
end
section
section Zc
abbrev Ly := (Nat → Bool) × Nat × Nat × (Nat → Int × Int × Int) × (Nat → Int × Int × Int)
def fre (tk : Nat → Bool) (p n : Nat) : Prop := ∀ i, i < n → tk (p + i) = false
noncomputable def plF (tk : Nat → Bool) (n : Nat) : Nat → Nat → Nat := by
  classical
  exact fun f => Nat.rec (fun p => p) (fun _ r p => if fre tk p n then p else r (p + n)) f
theorem plF_s {tk : Nat → Bool} {n f p : Nat} : (fre tk p n → plF tk n (f + 1) p = p) ∧ (¬ fre tk p n → plF tk n (f + 1) p = plF tk n f (p + n)) := sorry
theorem plF_ok {tk : Nat → Bool} {n : Nat} : ∀ (f p c : Nat), c < f → fre tk (p + n * c) n → fre tk (plF tk n f p) n ∧ ∃ e, e ≤ c ∧ plF tk n f p = p + n * e := sorry
def mkT (tk : Nat → Bool) (p n : Nat) : Nat → Bool := fun i => tk i || (decide (p ≤ i) && decide (i < p + n))
theorem mkT_iff {tk : Nat → Bool} {p n i : Nat} : mkT tk p n i = true ↔ tk i = true ∨ (p ≤ i ∧ i < p + n) := sorry
noncomputable def lzP (s : Ly) (n : Nat) : Nat := plF s.1 n 4096 0
noncomputable def lzM (s : Ly) (n : Nat) : Ly := (mkT s.1 (lzP s n) n, (if s.2.1 < lzP s n + n then lzP s n + n else s.2.1), s.2.2)
def lzQ (s : Ly) : Ly := (s.1, s.2.1, s.2.2.1 + 1, s.2.2.2)
def lzSF (s : Ly) (j : Nat) (v : Int × Int × Int) : Ly := (s.1, s.2.1, s.2.2.1, (fun i => if i = j then v else s.2.2.2.1 i), s.2.2.2.2)
def lzSO (s : Ly) (o : Nat) (v : Int × Int × Int) : Ly := (s.1, s.2.1, s.2.2.1, s.2.2.2.1, fun i => if i = o then v else s.2.2.2.2 i)
abbrev isNk (k : Int) : Prop := 0 ≤ k ∧ k ≤ 8 ∨ k = 11
noncomputable def lzA (m k : Int) (s : Ly) : Int × Ly := if m = 1 ∧ k ≠ 12 then ((lzP s 1 : Int), lzM s 1) else (-2, s)
noncomputable def lzB (m k : Int) (j : Nat) (fl : Int) (s : Ly) : Ly := if m < 2 ∧ isNk k then lzSF (lzM s (kBits k).toNat) j ((lzP s (kBits k).toNat : Int), -2, fl) else lzSF (lzQ s) j (-2, (s.2.2.1 : Int), fl)
noncomputable def lzFd (F : Nat → Int × Int × Int) (j : Nat) (s : Ly) : Ly := lzB (F j).2.1 (F j).2.2 j (lzA (F j).2.1 (F j).2.2 s).1 (lzA (F j).2.1 (F j).2.2 s).2
def lzNu (n : Nat) (F : Nat → Int × Int × Int) (o : Nat) : Prop := ∃ j, j < n ∧ (F j).1 = o ∧ isNk (F j).2.2
def lzOt (n : Nat) (F : Nat → Int × Int × Int) (o : Nat) : Prop := ∃ j, j < n ∧ (F j).1 = o ∧ ¬ isNk (F j).2.2
noncomputable def lzC (P : Prop) (s : Ly) : Int × Ly := by
  classical
  exact if P then ((lzP s 64 : Int), lzM s 64) else (-2, s)
noncomputable def lzE (P : Prop) (s : Ly) : Int × Ly := by
  classical
  exact if P then ((s.2.2.1 : Int), lzQ s) else (-2, s)
theorem lzC_p {P : Prop} {s : Ly} (h : P) : lzC P s = ((lzP s 64 : Int), lzM s 64) := sorry
theorem lzC_n {P : Prop} {s : Ly} (h : ¬ P) : lzC P s = (-2, s) := sorry
theorem lzE_p {P : Prop} {s : Ly} (h : P) : lzE P s = ((s.2.2.1 : Int), lzQ s) := sorry
theorem lzE_n {P : Prop} {s : Ly} (h : ¬ P) : lzE P s = (-2, s) := sorry
noncomputable def lzOn (n : Nat) (F : Nat → Int × Int × Int) (o : Nat) (s : Ly) : Ly :=
  lzSO (lzE (lzOt n F o) (lzC (lzNu n F o) (lzM s 16)).2).2 o ((lzP s 16 : Int), (lzC (lzNu n F o) (lzM s 16)).1, (lzE (lzOt n F o) (lzC (lzNu n F o) (lzM s 16)).2).1)
noncomputable def lzSt (n : Nat) (F : Nat → Int × Int × Int) (j : Nat) (s : Ly) : Ly := if (F j).1 < 0 then lzFd F j s else if 0 ≤ (s.2.2.2.2 (F j).1.toNat).1 then s else lzOn n F (F j).1.toNat s
noncomputable def lzL (n : Nat) (F : Nat → Int × Int × Int) : List Nat → Ly → Ly
  | [], s => s
  | j :: l, s => lzL n F l (lzSt n F j s)
def lz0 : Ly := (fun _ => false, 0, 0, (fun _ => (-2, -2, -2)), fun _ => (-2, -2, -2))
def lzV (F : Nat → Int × Int × Int) (s : Ly) (j : Nat) : Int × Int × Int := if (F j).1 < 0 then s.2.2.2.1 j else if isNk (F j).2.2 then ((s.2.2.2.2 (F j).1.toNat).2.1, -2, (s.2.2.2.2 (F j).1.toNat).1) else (-2, (s.2.2.2.2 (F j).1.toNat).2.2, (s.2.2.2.2 (F j).1.toNat).1)
def lzI (s : Ly) (m : Nat) : Prop := (∀ i, s.1 i = true → i < 64 * m) ∧ s.2.1 ≤ 64 * m ∧ 2 * s.2.2.1 ≤ m
def isB (n : Nat) : Prop := n = 1 ∨ n = 16 ∨ n = 32 ∨ n = 64
theorem lzI.fnd {s : Ly} {m n : Nat} (h : lzI s m) (hn : isB n) (hm : m ≤ 63) : fre s.1 (0 + n * (64 / n * m)) n ∧ n * (64 / n * m) = 64 * m ∧ 64 / n * m < 4096 := sorry
theorem lzI.pl {s : Ly} {m n : Nat} (h : lzI s m) (hn : isB n) (hm : m ≤ 63) : fre s.1 (lzP s n) n ∧ lzP s n ≤ 64 * m ∧ n ∣ lzP s n ∧ lzI (lzM s n) (m + 1) := sorry
theorem kBits_B {k : Int} (h : isNk k) : isB (kBits k).toNat ∧ 0 < kBits k ∧ (kBits k ≤ 64) := sorry
theorem lzI.more {s : Ly} {m m' : Nat} (h : lzI s m) (hm : m ≤ m') : lzI s m' := sorry
theorem lzA_o {s : Ly} {a k : Int} : (lzA a k s).2.2.2.2 = s.2.2.2 ∧ (lzA a k s).2.2.2.1 = s.2.2.1 := sorry
theorem lzI.A {s : Ly} {m : Nat} {a k : Int} (h : lzI s m) (hm : m ≤ 63) : lzI (lzA a k s).2 (m + 1) := sorry
theorem lzI.B {s : Ly} {m j : Nat} {a k fl : Int} (h : lzI s m) (hm : m ≤ 63) (hp : 2 * s.2.2.1 + 1 ≤ m) : lzI (lzB a k j fl s) (m + 1) := sorry
theorem lzI.fd {s : Ly} {m j : Nat} {F : Nat → Int × Int × Int} (h : lzI s m) (hm : m ≤ 62) : lzI (lzFd F j s) (m + 2) := sorry
theorem lzI.on {s : Ly} {m n o : Nat} {F : Nat → Int × Int × Int} (h : lzI s m) (hm : m ≤ 62) : lzI (lzOn n F o s) (m + 2) := sorry
theorem lzI.st {s : Ly} {m n j : Nat} {F : Nat → Int × Int × Int} (h : lzI s m) (hm : m ≤ 62) : lzI (lzSt n F j s) (m + 2) := sorry
theorem lzI.z : lzI lz0 0 := sorry
end Zc
end
section
section Zd
variable {μ μ' μ'' : ab_M} {d : Nat} {s : Ly}
def tBt (μ : ab_M) (s : Ly) : Prop := (∀ i, i < 4096 → μ 7860 i = if s.1 i = true then 1 else 0) ∧ μ 7756 130 = s.2.1 ∧ μ 7756 131 = s.2.2.1
theorem tw_zp13 {tk : Nat → Bool} (ht : ∀ i, i < 4096 → μ 7860 i = if tk i = true then 1 else 0) {n p : Nat} (hp : p + n ≤ 4096) : ∀ m i, i + m = n → (∀ k, k < i → tk (p + k) = false) → (fre tk p n → (ab_run wt (d + 1) 210 13 [(2, 7756), (0, n), (0, p), (0, 1), (0, (((p + i : Nat) : Int)))] [] μ) = (ab_run wt (d + 1) 210 4 [(2, 7756), (0, n), (0, p), (0, 1), (3, 0)] [] μ)) ∧ (¬ fre tk p n → (ab_run wt (d + 1) 210 13 [(2, 7756), (0, n), (0, p), (0, 1), (0, (((p + i : Nat) : Int)))] [] μ) = (ab_run wt (d + 1) 210 4 [(2, 7756), (0, n), (0, (((p + n : Nat) : Int))), (0, 0), (3, 0)] [] μ)) := sorry
theorem tw_zp4 {tk : Nat → Bool} (ht : ∀ i, i < 4096 → μ 7860 i = if tk i = true then 1 else 0) {n : Nat} : ∀ f p c, c < f → fre tk (p + n * c) n → p + n * c + n ≤ 4096 → (ab_run wt (d + 1) 210 4 [(2, 7756), (0, n), (0, p), (0, 0), (3, 0)] [] μ) = (ab_run wt (d + 1) 210 61 [(2, 7756), (0, n), (0, (((plF tk n f p : Nat) : Int))), (3, 0), (0, (((plF tk n f p + 0 : Nat) : Int)))] [] μ) := sorry
theorem tw_zp61 {n p b : Nat} (hp : p + n ≤ 4096) : ∀ (m i : Nat) (μ : ab_M), i + m = n → μ 7756 130 = b → ∃ μ', (ab_run wt (d + 1) 210 61 [(2, 7756), (0, n), (0, p), (3, 0), (0, (((p + i : Nat) : Int)))] [] μ) = some ((0, (p : Int)), μ') ∧ (∀ k, μ' 7860 k = if p + i ≤ k ∧ k < p + n then 1 else μ 7860 k) ∧ μ' 7756 130 = ((if b < p + n then p + n else b : Nat) : Int) ∧ frPl μ μ' := sorry
theorem tw_zplaceOf {n m : Nat} (h : tBt μ s) (hI : lzI s m) (hn : isB n) (hm : m ≤ 62) : ∃ μ', (ab_run wt (d + 1) 210 0 [(2, 7756), (0, n), (3, 0), (3, 0), (3, 0)] [] μ) = some ((0, (lzP s n : Int)), μ') ∧ tBt μ' (lzM s n) ∧ frPl μ μ' := sorry
end Zd
end
section
section Ze
variable {μ μ' μ'' : ab_M} {d : Nat} {s : Ly} {t n m j : Nat} {F : Nat → Int × Int × Int}
def tLf (μ : ab_M) (t n : Nat) (F : Nat → Int × Int × Int) : Prop := (μ 7769 t = n ∧ n ≤ 24) ∧ ∀ j, j < n → μ 7783 (24 * t + j) = (F j).1 ∧ μ 7779 (24 * t + j) = (F j).2.1 ∧ μ 7780 (24 * t + j) = (F j).2.2 ∧ 0 ≤ (F j).2.2 ∧ (F j).1 < 8
def lzT (F : Nat → Int × Int × Int) (s : Ly) (j : Nat) : Prop := 0 ≤ (lzV F s j).1 ∨ 0 ≤ (lzV F s j).2.1
def tLv (μ : ab_M) (t n : Nat) (F : Nat → Int × Int × Int) (s : Ly) : Prop := tBt μ s ∧ (∀ j, j < n → lzT F s j → μ 7788 (24 * t + j) = (lzV F s j).1 ∧ μ 7789 (24 * t + j) = (lzV F s j).2.1 ∧ μ 7790 (24 * t + j) = (lzV F s j).2.2) ∧ ∀ o, o < 8 → 0 ≤ (s.2.2.2.2 o).1 → μ 7810 (8 * t + o) = (s.2.2.2.2 o).1 ∧ μ 7811 (8 * t + o) = (s.2.2.2.2 o).2.1 ∧ μ 7812 (8 * t + o) = (s.2.2.2.2 o).2.2
def frLy (t : Nat) (μ μ' : ab_M) : Prop := ∀ a i, a ≠ 7860 → (a ≠ 7756 ∨ i ≠ 130 ∧ i ≠ 131) → (a ≠ 7788 ∧ a ≠ 7789 ∧ a ≠ 7790 ∨ i < 24 * t ∨ 24 * t + 24 ≤ i) → (a ≠ 7810 ∧ a ≠ 7811 ∧ a ≠ 7812 ∨ i < 8 * t ∨ 8 * t + 8 ≤ i) → μ' a i = μ a i
theorem frLy.trans (f : frLy t μ μ') (g : frLy t μ' μ'') : frLy t μ μ'' := sorry
theorem frLy.refl : frLy t μ μ := sorry
theorem tLf.ly (h : tLf μ t n F) (g : frLy t μ μ') : tLf μ' t n F := sorry
def frF3 (f : Nat) (μ μ' : ab_M) : Prop := ∀ a i, a ≠ 7860 → (a ≠ 7756 ∨ i ≠ 130 ∧ i ≠ 131) → (a ≠ 7788 ∧ a ≠ 7789 ∧ a ≠ 7790 ∨ i ≠ f) → μ' a i = μ a i
theorem frF3.ly {f : Nat} (h : frF3 f μ μ') (h1 : 24 * t ≤ f) (h2 : f < 24 * t + 24) : frLy t μ μ' := sorry
theorem tBt.up {a i : Nat} {v : Int} (h : tBt μ s) (ha : a ≠ 7860) (hb : a ≠ 7756) : tBt (ab_up μ a i v) s := sorry
theorem lzFd_fa {i : Nat} (h : i ≠ j) : (lzFd F j s).2.2.2.1 i = s.2.2.2.1 i := sorry
theorem lzFd_oa : (lzFd F j s).2.2.2.2 = s.2.2.2.2 := sorry
theorem lzV_fd {i : Nat} (h : i ≠ j) : lzV F (lzFd F j s) i = lzV F s i := sorry
theorem tw_lf56 {f : Nat} {md k fl : Int} (f1 : f < 3600) (h : tBt μ s) (hI : lzI s m) (hm : m ≤ 62) (h1 : μ 7779 f = md) (h2 : μ 7780 f = k) (k0 : 0 ≤ k) (h3 : μ 7790 f = fl) (h4 : μ 7788 f = -2) (h5 : μ 7789 f = -2) : ∃ μ', (ab_run wt (d + 2) 141 56 [(2, 7756), (0, f)] [] μ) = some ((3, 0), μ') ∧ tBt μ' (lzB md k j fl s) ∧ (μ' 7788 f = ((lzB md k j fl s).2.2.2.1 j).1 ∧ μ' 7789 f = ((lzB md k j fl s).2.2.2.1 j).2.1 ∧ μ' 7790 f = ((lzB md k j fl s).2.2.2.1 j).2.2) ∧ frF3 f μ μ' := sorry
theorem tw_layField (hR : tLf μ t n F) (hv : tLv μ t n F s) (hI : lzI s m) (hm : m ≤ 60) (hj : j < n) (o : (F j).1 < 0) (t1 : t < 150) : ∃ μ', (ab_run wt (d + 2) 141 0 [(2, 7756), (0, (((24 * t + j : Nat) : Int)))] [] μ) = some ((3, 0), μ') ∧ tLv μ' t n F (lzFd F j s) ∧ frLy t μ μ' := sorry
end Ze
end
section
section Zf
variable {μ μ' μ'' : ab_M} {d : Nat} {s : Ly} {t n m j o : Nat} {F : Nat → Int × Int × Int}
noncomputable def ppI (P : Prop) : Int := by
  classical
  exact if P then 1 else 0
theorem ppI_p {P : Prop} (h : P) : ppI P = 1 := sorry
theorem ppI_n {P : Prop} (h : ¬ P) : ppI P = 0 := sorry
theorem ppI_c {P Q : Prop} (h : P ↔ Q) : ppI P = ppI Q := sorry
theorem lzNu_s {i : Nat} : lzNu (i + 1) F o ↔ lzNu i F o ∨ (F i).1 = o ∧ isNk (F i).2.2 := sorry
theorem lzOt_s {i : Nat} : lzOt (i + 1) F o ↔ lzOt i F o ∨ (F i).1 = o ∧ ¬ isNk (F i).2.2 := sorry
theorem tw_lo31 (hR : tLf μ t n F) (t1 : t < 150) {q : Int} : ∀ m i, i + m = n → (ab_run wt (d + 2) 142 31 [(2, 7756), (0, t), (0, o), (0, q), (0, (ppI (lzNu i F o))), (0, (ppI (lzOt i F o))), (0, (((24 * t + i : Nat) : Int)))] [] μ) = (ab_run wt (d + 2) 142 31 [(2, 7756), (0, t), (0, o), (0, q), (0, (ppI (lzNu n F o))), (0, (ppI (lzOt n F o))), (0, (((24 * t + n : Nat) : Int)))] [] μ) := sorry
theorem tw_lo186 {q : Nat} {vg vp vq : Int} (t1 : t < 150) (hq : q = 8 * t + o) (o8 : o < 8) : ∀ m i μ, i + m = n → tLf μ t n F → μ 7810 q = vg → μ 7811 q = vp → μ 7812 q = vq → ∃ μ', (ab_run wt (d + 2) 142 186 [(2, 7756), (0, t), (0, o), (0, q), (3, 0), (3, 0), (0, (((24 * t + i : Nat) : Int)))] [] μ) = some ((3, 0), μ') ∧ (∀ j, i ≤ j → j < n → (F j).1 = o → μ' 7790 (24 * t + j) = vg ∧ μ' 7788 (24 * t + j) = (if isNk (F j).2.2 then vp else -2) ∧ μ' 7789 (24 * t + j) = if isNk (F j).2.2 then -2 else vq) ∧ ∀ a k, (a ≠ 7788 ∧ a ≠ 7789 ∧ a ≠ 7790 ∨ k < 24 * t + i ∨ 24 * t + n ≤ k ∨ (F (k - 24 * t)).1 ≠ o) → μ' a k = μ a k := sorry
end Zf
end
section
section Zg
variable {μ μ' μ'' : ab_M} {d : Nat} {s : Ly} {t n m j o : Nat} {F : Nat → Int × Int × Int}
theorem lzOn_fa : (lzOn n F o s).2.2.2.1 = s.2.2.2.1 := sorry
theorem lzOn_oa {p : Nat} (h : p ≠ o) : (lzOn n F o s).2.2.2.2 p = s.2.2.2.2 p := sorry
theorem lzOn_o : (lzOn n F o s).2.2.2.2 o = ((lzP s 16 : Int), (lzC (lzNu n F o) (lzM s 16)).1, (lzE (lzOt n F o) (lzC (lzNu n F o) (lzM s 16)).2).1) := sorry
theorem tw_layOne (hR : tLf μ t n F) (hv : tLv μ t n F s) (hI : lzI s m) (hm : m ≤ 60) (o8 : o < 8) (t1 : t < 150) : ∃ μ', (ab_run wt (d + 2) 142 0 [(2, 7756), (0, t), (0, o), (3, 0), (3, 0), (3, 0), (3, 0)] [] μ) = some ((3, 0), μ') ∧ tLv μ' t n F (lzOn n F o s) ∧ frLy t μ μ' := sorry
end Zg
end
section
section Zh
variable {μ μ' μ'' : ab_M} {d : Nat} {s : Ly} {t n m j o : Nat} {F : Nat → Int × Int × Int} {G : Nat → Int}
theorem lzOn_told {i : Nat} (hi : i < n) (h : (F i).1 = o) : lzT F (lzOn n F o s) i ∧ 0 ≤ ((lzOn n F o s).2.2.2.2 o).1 := sorry
theorem lzFd_told (h : (F j).1 < 0) : lzT F (lzFd F j s) j := sorry
theorem lzV_on {i : Nat} (h : (F i).1 ≠ o) : lzV F (lzOn n F o s) i = lzV F s i := sorry
def lzD (n : Nat) (F : Nat → Int × Int × Int) (G : Nat → Int) (s : Ly) (x : Int) : Prop := (∀ j, j < n → G j ≤ x → lzT F s j ∧ (0 ≤ (F j).1 → 0 ≤ (s.2.2.2.2 (F j).1.toNat).1)) ∧ ∀ o : Nat, 0 ≤ (s.2.2.2.2 o).1 → (∃ j, j < n ∧ G j ≤ x ∧ (F j).1 = o) ∧ ∀ i, i < n → (F i).1 = o → lzT F s i
def lzR (n : Nat) (G : Nat → Int) (x : Int) (l : List Nat) : Prop := (∀ j, j < n → (x < G j ↔ j ∈ l)) ∧ l.Pairwise (fun a b => G a < G b) ∧ ∀ j ∈ l, j < n
theorem lzR.tl {x : Int} {l : List Nat} (h : lzR n G x (j :: l)) : lzR n G (G j) l ∧ j < n ∧ x < G j ∧ ∀ i, i < n → G i ≤ G j → G i ≤ x ∨ i = j := sorry
theorem lzD.st {x : Int} {l : List Nat} (h : lzD n F G s x) (r : lzR n G x (j :: l)) : lzD n F G (lzSt n F j s) (G j) := sorry
theorem lzD.z (h : ∀ j, j < n → 1 ≤ G j) : lzD n F G lz0 0 := sorry
def tLn (μ : ab_M) (t n : Nat) (G : Nat → Int) : Prop := ∀ j, j < n → μ 7778 (24 * t + j) = G j
theorem tw_ly50 (hR : tLf μ t n F) (hG : tLn μ t n G) (t1 : t < 150) {x : Int} : ∀ m i (x4 : Int), i + m = n → (x4 = -2 ∧ (∀ k, k < i → ¬ x < G k) ∨ ∃ b : Nat, b < i ∧ x4 = ((24 * t + b : Nat) : Int) ∧ x < G b ∧ ∀ k, k < i → x < G k → G b ≤ G k) → ∃ y4 : Int, (ab_run wt (d + 1) 143 50 [(2, 7756), (0, t), (0, x), (3, 0), (0, x4), (0, (((24 * t + i : Nat) : Int)))] [] μ) = (ab_run wt (d + 1) 143 50 [(2, 7756), (0, t), (0, x), (3, 0), (0, y4), (0, (((24 * t + n : Nat) : Int)))] [] μ) ∧ (y4 = -2 ∧ (∀ k, k < n → ¬ x < G k) ∨ ∃ b : Nat, b < n ∧ y4 = ((24 * t + b : Nat) : Int) ∧ x < G b ∧ ∀ k, k < n → x < G k → G b ≤ G k) := sorry
theorem tw_il8 (hR : tLf μ t n F) (hG : tLn μ t n G) (t1 : t < 150) (hj : j < n) : ∀ m i (x3 : Int), i + m = n → (x3 = ppI (∀ k, k < i → (F k).1 = (F j).1 → G j ≤ G k)) → (ab_run wt (d + 1) 90 8 [(2, 7756), (0, t), (0, (((24 * t + j : Nat) : Int))), (0, x3), (0, (((24 * t + i : Nat) : Int)))] [] μ) = some ((0, ppI (∀ k, k < n → (F k).1 = (F j).1 → G j ≤ G k)), μ) := sorry
end Zh
end
section
section Zi
variable {μ μ' μ'' : ab_M} {d : Nat} {s : Ly} {t n m j o : Nat} {F : Nat → Int × Int × Int} {G : Nat → Int}
def frLz (t : Nat) (μ μ' : ab_M) : Prop := ∀ a i, a ≠ 7860 → (a ≠ 7756 ∨ i ≠ 130 ∧ i ≠ 131) → (a ≠ 7788 ∧ a ≠ 7789 ∧ a ≠ 7790 ∨ i < 24 * t ∨ 24 * t + 24 ≤ i) → (a ≠ 7810 ∧ a ≠ 7811 ∧ a ≠ 7812 ∨ i < 8 * t ∨ 8 * t + 8 ≤ i) → (a ≠ 7771 ∧ a ≠ 7772 ∨ i ≠ t) → μ' a i = μ a i
theorem frLy.z (h : frLy t μ μ') : frLz t μ μ' := sorry
theorem frLz.trans (f : frLz t μ μ') (g : frLz t μ' μ'') : frLz t μ μ'' := sorry
theorem tLn.ly (h : tLn μ t n G) (g : frLy t μ μ') : tLn μ' t n G := sorry
theorem tw_ly36 (t1 : t < 150) : ∀ (l : List Nat) (s : Ly) (μ : ab_M) (x : Int) (m : Nat), m + 2 * l.length ≤ 60 → tLf μ t n F → tLn μ t n G → tLv μ t n F s → lzI s m → lzD n F G s x → lzR n G x l → ∃ μ' y, (ab_run wt (d + 3) 143 36 [(2, 7756), (0, t), (0, x), (0, 1), (3, 0), (3, 0)] [] μ) = (ab_run wt (d + 3) 143 36 [(2, 7756), (0, t), (0, y), (0, 0), (3, 0), (3, 0)] [] μ') ∧ tLv μ' t n F (lzL n F l s) ∧ lzI (lzL n F l s) (m + 2 * l.length) ∧ (∀ j, j < n → lzT F (lzL n F l s) j ∧ (0 ≤ (F j).1 → 0 ≤ ((lzL n F l s).2.2.2.2 (F j).1.toNat).1)) ∧ frLy t μ μ' := sorry
theorem tw_ly2 {t : Int} : ∀ (m i : Nat) (μ : ab_M), i + m = 4096 → (∀ k, k < i → μ 7860 k = 0) → ∃ μ', (ab_run wt (d + 1) 143 2 [(2, 7756), (0, t), (0, i), (3, 0), (3, 0), (3, 0)] [] μ) = (ab_run wt (d + 1) 143 36 [(2, 7756), (0, t), (0, 0), (0, 1), (3, 0), (3, 0)] [] μ') ∧ tBt μ' lz0 ∧ ∀ a k, a ≠ 7860 → (a ≠ 7756 ∨ k ≠ 130 ∧ k ≠ 131) → μ' a k = μ a k := sorry
def tLo (μ : ab_M) (t n : Nat) (F : Nat → Int × Int × Int) (s : Ly) : Prop := (μ 7771 t = (((s.2.1 + 63) / 64 : Nat) : Int) ∧ μ 7772 t = s.2.2.1) ∧ (∀ j, j < n → μ 7788 (24 * t + j) = (lzV F s j).1 ∧ μ 7789 (24 * t + j) = (lzV F s j).2.1 ∧ μ 7790 (24 * t + j) = (lzV F s j).2.2) ∧ ∀ o : Nat, o < 8 → (∃ j, j < n ∧ (F j).1 = o) → μ 7810 (8 * t + o) = (s.2.2.2.2 o).1 ∧ μ 7811 (8 * t + o) = (s.2.2.2.2 o).2.1 ∧ μ 7812 (8 * t + o) = (s.2.2.2.2 o).2.2
theorem tw_layout {l : List Nat} (t1 : t < 150) (hR : tLf μ t n F) (hG : tLn μ t n G) (g1 : ∀ j, j < n → 1 ≤ G j) (hl : lzR n G 0 l) (ll : l.length ≤ 24) : ∃ μ', (ab_run wt (d + 3) 143 0 [(2, 7756), (0, t), (3, 0), (3, 0), (3, 0), (3, 0)] [] μ) = some ((3, 0), μ') ∧ tLo μ' t n F (lzL n F l lz0) ∧ frLz t μ μ' := sorry
end Zi
end
section
section Zj
variable {μ μ' μ'' μ0 : ab_M} {d s : Nat} {c : Nat → Nat}
def kgL : Nat → List Nat
  | 0 => [7765, 7766, 7768, 7769, 7770, 7771, 7772, 7773, 7774]
  | 1 => [7775, 7776, 7778, 7779, 7780, 7781, 7782, 7783, 7785, 7787, 7788, 7789, 7790]
  | 2 => [7806]
  | 3 => [7807, 7808, 7810, 7811, 7812]
  | 4 => [7813, 7814, 7816]
  | 5 => [7819, 7820, 7822, 7823, 7824, 7825]
  | 6 => [7826, 7827]
  | 7 => [7829, 7830, 7832, 7835, 7836, 7837, 7838]
  | 8 => [7842, 7843, 7844, 7848, 7849]
  | 9 => [7856]
  | _ => []
def kgU : Nat → Nat
  | 0 => 30
  | 1 => 720
  | 2 => 43200
  | 3 => 240
  | 4 => 480
  | 5 => 4
  | 6 => 32
  | 7 => 40
  | 8 => 4000
  | 9 => 9000
  | _ => 0
theorem kgL_dis : ∀ g, g < 10 → ∀ h, h < 10 → ∀ a ∈ kgL g, a ∈ kgL h → g = h := sorry
theorem kgL_no : ∀ g, g < 10 → ∀ a ∈ kgL g, a ≠ 7762 ∧ a ≠ 7763 ∧ a ≠ 7764 ∧ a ≠ 7857 ∧ a ≠ 7756 := sorry
def cpLs (μ : ab_M) (x y : Nat) (L : List Nat) : ab_M := L.foldl (fun ν a => ab_up ν a x (μ a y)) μ
theorem cpLs_f {x y : Nat} : ∀ (L : List Nat) (ν : ab_M) (b i : Nat), L.foldl (fun ν a => ab_up ν a x (μ a y)) ν b i = if b ∈ L ∧ i = x then μ b y else ν b i := sorry
theorem cpLs_at {x y b i : Nat} {L : List Nat} : cpLs μ x y L b i = if b ∈ L ∧ i = x then μ b y else μ b i := sorry
def kReg (s a x : Nat) : Prop := ∃ g, g < 10 ∧ a ∈ kgL g ∧ kgU g * s ≤ x ∧ x < kgU g * s + kgU g
def kcp (μ0 : ab_M) (s : Nat) (μ : ab_M) (c : Nat → Nat) : Prop := (∀ g, g < 10 → ∀ a ∈ kgL g, ∀ i, i < c g → μ a (kgU g * s + i) = μ0 a (4 * kgU g + i)) ∧ ∀ a x, ¬ kReg s a x → μ a x = μ0 a x
def kup (c : Nat → Nat) (g v : Nat) : Nat → Nat := fun k => if k = g then v else c k
theorem kup_at {g v : Nat} : kup c g v g = v := sorry
theorem kup_o {g h v : Nat} (n : h ≠ g) : kup c g v h = c h := sorry
theorem kcp.st (h : kcp μ0 s μ c) {g u x y : Nat} {L : List Nat} (hs : s < 4) (hg : g < 10) (hL : kgL g = L) (hu : kgU g = u) (b : c g < u) (hx : x = u * s + c g) (hy : y = 4 * u + c g) : kcp μ0 s (cpLs μ x y L) (kup c g (c g + 1)) := sorry
theorem kcp.to {c' : Nat → Nat} (h : kcp μ0 s μ c) (e : ∀ g, g < 10 → c' g = c g) : kcp μ0 s μ c' := sorry
theorem kcp.dr (h : kcp μ0 s μ c) {g a x : Nat} (hs : s < 4) (hg : g < 10) (ha : a ∈ kgL g) (hx : 4 * kgU g ≤ x) : μ a x = μ0 a x := sorry
theorem kcp.no (h : kcp μ0 s μ c) {a x : Nat} (ha : a = 7762 ∨ a = 7763 ∨ a = 7764 ∨ a = 7857 ∨ a = 7756) : μ a x = μ0 a x := sorry
theorem tw_kf158 {i : Nat} (hs : s < 4) (hi : i < 720) : ∀ (m k : Nat) (μ : ab_M) (c : Nat → Nat), k + m = 60 → kcp μ0 s μ c → c 2 = 60 * i + k → ∃ μ', (ab_run wt (d + 1) 129 158 [(2, 7756), (0, (((720 * s + i : Nat) : Int))), (0, (((2880 + i : Nat) : Int))), (0, k)] [] μ) = some ((3, 0), μ') ∧ kcp μ0 s μ' (kup c 2 (60 * i + 60)) := sorry
theorem tw_keepField {i : Nat} (hs : s < 4) (hi : i < 720) (h : kcp μ0 s μ c) (h1 : c 1 = i) (h2 : c 2 = 60 * i) : ∃ μ', (ab_run wt (d + 1) 129 0 [(2, 7756), (0, (((720 * s + i : Nat) : Int))), (0, (((2880 + i : Nat) : Int))), (3, 0)] [] μ) = some ((3, 0), μ') ∧ kcp μ0 s μ' (kup (kup c 1 (i + 1)) 2 (60 * i + 60)) := sorry
end Zj
end
section
section Zk
variable {μ μ' μ'' μ0 : ab_M} {d s : Nat} {c : Nat → Nat}
theorem kcp.fin (h : kcp μ0 s μ c) {g v : Nat} (e : c g = v) : kcp μ0 s μ (kup c g v) := sorry
theorem kcp.ren {g v w : Nat} (h : kcp μ0 s μ (kup (kup c g v) g w)) : kcp μ0 s μ (kup c g w) := sorry
theorem tw_ks255 {q : Nat} {x1 x2 : Int} (hs : s < 4) (hq : q < 40) {j : Nat} (hj : j < 10) : ∀ (m k : Nat) (μ : ab_M) (c : Nat → Nat), k + m = 100 → kcp μ0 s μ c → c 8 = 100 * q + k → ∃ μ', (ab_run wt (d + 1) 133 255 [(2, 7756), (0, x1), (0, x2), (0, j), (0, (((40 * s + q : Nat) : Int))), (0, (((160 + q : Nat) : Int))), (0, k)] [] μ) = (ab_run wt (d + 1) 133 132 [(2, 7756), (0, x1), (0, x2), (0, (((j + 1 : Nat) : Int))), (3, 0), (3, 0), (3, 0)] [] μ') ∧ kcp μ0 s μ' (kup c 8 (100 * q + 100)) := sorry
theorem tw_ks132 {v : Nat} (hs : s < 4) (hv : v < 4) : ∀ (m j : Nat) (μ : ab_M) (c : Nat → Nat), j + m = 10 → kcp μ0 s μ c → c 7 = 10 * v + j → c 8 = 100 * (10 * v + j) → ∃ μ', (ab_run wt (d + 1) 133 132 [(2, 7756), (0, (((4 * s + v : Nat) : Int))), (0, (((16 + v : Nat) : Int))), (0, j), (3, 0), (3, 0), (3, 0)] [] μ) = some ((3, 0), μ') ∧ kcp μ0 s μ' (kup (kup c 7 (10 * v + 10)) 8 (100 * (10 * v + 10))) := sorry
theorem tw_ks74 {v : Nat} (hs : s < 4) (hv : v < 4) : ∀ (m j : Nat) (μ : ab_M) (c : Nat → Nat), j + m = 8 → kcp μ0 s μ c → c 6 = 8 * v + j → ∃ μ', (ab_run wt (d + 1) 133 74 [(2, 7756), (0, (((4 * s + v : Nat) : Int))), (0, (((16 + v : Nat) : Int))), (0, j), (3, 0), (3, 0), (3, 0)] [] μ) = (ab_run wt (d + 1) 133 132 [(2, 7756), (0, (((4 * s + v : Nat) : Int))), (0, (((16 + v : Nat) : Int))), (0, (((0 : Nat) : Int))), (3, 0), (3, 0), (3, 0)] [] μ') ∧ kcp μ0 s μ' (kup c 6 (8 * v + 8)) := sorry
theorem tw_keepService {v : Nat} (hs : s < 4) (hv : v < 4) (h : kcp μ0 s μ c) (h5 : c 5 = v) (h6 : c 6 = 8 * v) (h7 : c 7 = 10 * v) (h8 : c 8 = 1000 * v) : ∃ μ', (ab_run wt (d + 1) 133 0 [(2, 7756), (0, (((4 * s + v : Nat) : Int))), (0, (((16 + v : Nat) : Int))), (3, 0), (3, 0), (3, 0), (3, 0)] [] μ) = some ((3, 0), μ') ∧ kcp μ0 s μ' (kup (kup (kup (kup c 5 (v + 1)) 6 (8 * v + 8)) 7 (10 * v + 10)) 8 (100 * (10 * v + 10))) := sorry
end Zk
end
section
section Zl
variable {μ μ' μ'' μ0 : ab_M} {d s : Nat} {c : Nat → Nat}
theorem tw_kc404 {k : Nat} (hs : s < 4) (hk30 : k < 30) : ∀ (m j : Nat) (μ : ab_M) (c : Nat → Nat), j + m = 16 → kcp μ0 s μ c → c 4 = 16 * k + j → ∃ μ', (ab_run wt (d + 1) 132 404 [(2, 7756), (0, s), (0, k), (0, (((30 * s + k : Nat) : Int))), (0, (((120 + k : Nat) : Int))), (0, j)] [] μ) = (ab_run wt (d + 1) 132 85 [(2, 7756), (0, s), (0, (((k + 1 : Nat) : Int))), (3, 0), (3, 0), (3, 0)] [] μ') ∧ kcp μ0 s μ' (kup c 4 (16 * k + 16)) := sorry
theorem tw_kc263 {k : Nat} (hs : s < 4) (hk30 : k < 30) : ∀ (m j : Nat) (μ : ab_M) (c : Nat → Nat), j + m = 8 → kcp μ0 s μ c → c 3 = 8 * k + j → ∃ μ', (ab_run wt (d + 1) 132 263 [(2, 7756), (0, s), (0, k), (0, (((30 * s + k : Nat) : Int))), (0, (((120 + k : Nat) : Int))), (0, j)] [] μ) = (ab_run wt (d + 1) 132 404 [(2, 7756), (0, s), (0, k), (0, (((30 * s + k : Nat) : Int))), (0, (((120 + k : Nat) : Int))), (0, (((0 : Nat) : Int)))] [] μ') ∧ kcp μ0 s μ' (kup c 3 (8 * k + 8)) := sorry
theorem tw_kc228 {k : Nat} (hs : s < 4) (hk30 : k < 30) : ∀ (m j : Nat) (μ : ab_M) (c : Nat → Nat), j + m = 24 → kcp μ0 s μ c → c 1 = 24 * k + j → c 2 = 60 * (24 * k + j) → ∃ μ', (ab_run wt (d + 2) 132 228 [(2, 7756), (0, s), (0, k), (0, (((30 * s + k : Nat) : Int))), (0, (((120 + k : Nat) : Int))), (0, j)] [] μ) = (ab_run wt (d + 2) 132 263 [(2, 7756), (0, s), (0, k), (0, (((30 * s + k : Nat) : Int))), (0, (((120 + k : Nat) : Int))), (0, (((0 : Nat) : Int)))] [] μ') ∧ kcp μ0 s μ' (kup (kup c 1 (24 * k + 24)) 2 (60 * (24 * k + 24))) := sorry
theorem tw_kc85 {nt : Nat} (hs : s < 4) (n30 : nt ≤ 30) (hn : μ0 7763 s = nt) (rec01 : ∀ k, k < nt → μ0 7768 (120 + k) = 0 ∨ μ0 7768 (120 + k) = 1) : ∀ (m k : Nat) (μ : ab_M) (c : Nat → Nat), k + m = nt → kcp μ0 s μ c → c 0 = k → c 1 = 24 * k → c 2 = 1440 * k → c 3 = 8 * k → c 4 = 16 * k → ∃ μ', (ab_run wt (d + 2) 132 85 [(2, 7756), (0, s), (0, k), (3, 0), (3, 0), (3, 0)] [] μ) = (ab_run wt (d + 2) 132 500 [(2, 7756), (0, s), (0, (((0 : Nat) : Int))), (3, 0), (3, 0), (3, 0)] [] μ') ∧ kcp μ0 s μ' (kup (kup (kup (kup (kup c 0 nt) 1 (24 * nt)) 2 (1440 * nt)) 3 (8 * nt)) 4 (16 * nt)) := sorry
theorem tw_kc45 {W : List Int} (hs : s < 4) (l : W.length ≤ 9000) (hn : μ0 7857 s = W.length) : ∀ (m k : Nat) (μ : ab_M) (c : Nat → Nat), k + m = W.length → kcp μ0 s μ c → c 9 = k → ∃ μ', (ab_run wt (d + 1) 132 45 [(2, 7756), (0, s), (0, k), (3, 0), (3, 0), (3, 0)] [] μ) = (ab_run wt (d + 1) 132 85 [(2, 7756), (0, s), (0, (((0 : Nat) : Int))), (3, 0), (3, 0), (3, 0)] [] μ') ∧ kcp μ0 s μ' (kup c 9 W.length) := sorry
theorem tw_kc500 {nv : Nat} (hs : s < 4) (n4 : nv ≤ 4) (hn : μ0 7764 s = nv) : ∀ (m k : Nat) (μ : ab_M) (c : Nat → Nat), k + m = nv → kcp μ0 s μ c → c 5 = k → c 6 = 8 * k → c 7 = 10 * k → c 8 = 1000 * k → ∃ μ', (ab_run wt (d + 2) 132 500 [(2, 7756), (0, s), (0, k), (3, 0), (3, 0), (3, 0)] [] μ) = some ((3, 0), μ') ∧ kcp μ0 s μ' (kup (kup (kup (kup c 5 nv) 6 (8 * nv)) 7 (10 * nv)) 8 (1000 * nv)) := sorry
def frKs (s : Nat) (μ μ' : ab_M) : Prop := ∀ a x, ¬ kReg s a x → (a ≠ 7762 ∧ a ≠ 7763 ∧ a ≠ 7764 ∧ a ≠ 7857 ∨ x ≠ s) → μ' a x = μ a x
theorem tw_keepSchema {nt nv : Nat} {W : List Int} (hs : s < 4) (h1 : μ 7763 4 = nt) (n30 : nt ≤ 30) (h2 : μ 7764 4 = nv) (n4 : nv ≤ 4) (h3 : μ 7857 4 = W.length) (l : W.length ≤ 9000) (rec01 : ∀ k, k < nt → μ 7768 (120 + k) = 0 ∨ μ 7768 (120 + k) = 1) : ∃ μ', (ab_run wt (d + 2) 132 0 [(2, 7756), (0, s), (3, 0), (3, 0), (3, 0), (3, 0)] [] μ) = some ((3, 0), μ') ∧ (μ' 7762 s = 1 ∧ μ' 7763 s = nt ∧ μ' 7764 s = nv ∧ μ' 7857 s = W.length) ∧ (∀ g, g < 10 → ∀ a ∈ kgL g, ∀ i, i < (if g = 9 then W.length else if g < 5 then kgU g / 30 * nt else kgU g / 4 * nv) → μ' a (kgU g * s + i) = μ a (4 * kgU g + i)) ∧ frKs s μ μ' := sorry
end Zl
end
section
section Zm
variable {s : Ly} {n m j o : Nat} {F : Nat → Int × Int × Int} {tk : Nat → Bool} {bits : Nat} {B : Nat → Int × Nat}
def bIv (tk : Nat → Bool) (bits : Nat) (B : Nat → Int × Nat) : Prop := (∀ b, (B b).1 = -2 ∨ (0 ≤ (B b).1 ∧ 0 < (B b).2) ∧ (B b).1 % ((B b).2 : Int) = 0 ∧ (B b).1 + (B b).2 ≤ bits ∧ ∀ i : Nat, (B b).1 ≤ i → (i : Int) < (B b).1 + (B b).2 → tk i = true) ∧ ∀ b b', b ≠ b' → apt (B b).1 (B b).2 (B b').1 (B b').2
def bUp (B : Nat → Int × Nat) (b : Nat) (v : Int × Nat) : Nat → Int × Nat := fun i => if i = b then v else B i
theorem bIv.place (h : bIv s.1 s.2.1 B) (hI : lzI s m) {n b : Nat} (hn : isB n) (hm : m ≤ 63) (hb : (B b).1 = -2) : bIv (lzM s n).1 (lzM s n).2.1 (bUp B b ((lzP s n : Int), n)) := sorry
def pIv (q : Nat) (P : Nat → Int) : Prop := (∀ b, P b = -2 ∨ 0 ≤ P b ∧ P b < q) ∧ ∀ b b', b ≠ b' → 0 ≤ P b → P b ≠ P b'
theorem pIv.next {q b : Nat} {P : Nat → Int} (h : pIv q P) : pIv (q + 1) (fun i => if i = b then (q : Int) else P i) := sorry
def lzK (F : Nat → Int × Int × Int) (s : Ly) (b : Nat) : Int × Nat := if b % 4 = 0 then ((s.2.2.2.1 (b / 4)).1, (kBits (F (b / 4)).2.2).toNat) else if b % 4 = 1 then ((s.2.2.2.1 (b / 4)).2.2, 1) else if b % 4 = 2 then ((s.2.2.2.2 (b / 4)).1, 16) else ((s.2.2.2.2 (b / 4)).2.1, 64)
def lzJ (s : Ly) (b : Nat) : Int := if b % 2 = 0 then (s.2.2.2.1 (b / 2)).2.1 else (s.2.2.2.2 (b / 2)).2.2
def lzW (n : Nat) (F : Nat → Int × Int × Int) (s : Ly) : Prop := (∀ j, s.2.2.2.1 j = (-2, -2, -2) ∨ ((0 ≤ (s.2.2.2.1 j).1 ↔ (F j).2.1 < 2 ∧ isNk (F j).2.2) ∧ (0 ≤ (s.2.2.2.1 j).2.1 ↔ ¬ ((F j).2.1 < 2 ∧ isNk (F j).2.2)) ∧ (0 ≤ (s.2.2.2.1 j).2.2 ↔ (F j).2.1 = 1 ∧ (F j).2.2 ≠ 12))) ∧ ∀ o, s.2.2.2.2 o = (-2, -2, -2) ∨ (0 ≤ (s.2.2.2.2 o).1 ∧ (0 ≤ (s.2.2.2.2 o).2.1 ↔ lzNu n F o) ∧ (0 ≤ (s.2.2.2.2 o).2.2 ↔ lzOt n F o))
def lzG (n : Nat) (F : Nat → Int × Int × Int) (s : Ly) : Prop := bIv s.1 s.2.1 (lzK F s) ∧ pIv s.2.2.1 (lzJ s) ∧ lzW n F s
theorem lzG.z : lzG n F lz0 := sorry
theorem lzG.fd (h : lzG n F s) (hI : lzI s m) (hm : m ≤ 60) (h0 : s.2.2.2.1 j = (-2, -2, -2)) : lzG n F (lzFd F j s) := sorry
end Zm
end
section
section Zn
variable {s : Ly} {n m j o : Nat} {F : Nat → Int × Int × Int} {G : Nat → Int}
theorem lzG.on (h : lzG n F s) (hI : lzI s m) (hm : m ≤ 60) (h0 : s.2.2.2.2 o = (-2, -2, -2)) : lzG n F (lzOn n F o s) := sorry
theorem lzSt_fa {i : Nat} (h : i ≠ j) : (lzSt n F j s).2.2.2.1 i = s.2.2.2.1 i := sorry
theorem lzG.st (h : lzG n F s) (hI : lzI s m) (hm : m ≤ 60) (h0 : s.2.2.2.1 j = (-2, -2, -2)) : lzG n F (lzSt n F j s) := sorry
theorem lzL_ok : ∀ (l : List Nat) (s : Ly) (m : Nat) (x : Int), m + 2 * l.length ≤ 60 → lzI s m → lzG n F s → lzD n F G s x → lzR n G x l → (∀ j ∈ l, s.2.2.2.1 j = (-2, -2, -2)) → lzI (lzL n F l s) (m + 2 * l.length) ∧ lzG n F (lzL n F l s) ∧ ∀ j, j < n → lzT F (lzL n F l s) j ∧ (0 ≤ (F j).1 → 0 ≤ ((lzL n F l s).2.2.2.2 (F j).1.toNat).1) := sorry
def insO (G : Nat → Int) (k : Nat) : List Nat → List Nat
  | [] => [k]
  | i :: l => if G k < G i then k :: i :: l else i :: insO G k l
def ordO (G : Nat → Int) : Nat → List Nat
  | 0 => []
  | n + 1 => insO G n (ordO G n)
theorem insO_len {k : Nat} : ∀ l : List Nat, (insO G k l).length = l.length + 1 := sorry
theorem insO_mem {k i : Nat} : ∀ l : List Nat, i ∈ insO G k l ↔ i = k ∨ i ∈ l := sorry
theorem insO_pw {k : Nat} : ∀ l : List Nat, (∀ i ∈ l, G i ≠ G k) → l.Pairwise (fun a b => G a < G b) → (insO G k l).Pairwise fun a b => G a < G b := sorry
theorem ordO_len : ∀ n, (ordO G n).length = n := sorry
theorem ordO_mem {i : Nat} : ∀ n, i ∈ ordO G n ↔ i < n := sorry
theorem ordO_pw : ∀ n, (∀ i j, i < j → j < n → G i ≠ G j) → (ordO G n).Pairwise fun a b => G a < G b := sorry
theorem ordO_R (h : ∀ i j, i < j → j < n → G i ≠ G j) (g : ∀ j, j < n → 1 ≤ G j) : lzR n G 0 (ordO G n) := sorry
theorem lay_ok (h : ∀ i j, i < j → j < n → G i ≠ G j) (g : ∀ j, j < n → 1 ≤ G j) (n24 : n ≤ 24) : lzI (lzL n F (ordO G n) lz0) (2 * n) ∧ lzG n F (lzL n F (ordO G n) lz0) ∧ ∀ j, j < n → lzT F (lzL n F (ordO G n) lz0) j ∧ (0 ≤ (F j).1 → 0 ≤ ((lzL n F (ordO G n) lz0).2.2.2.2 (F j).1.toNat).1) := sorry
end Zn
end
section
section Zo
variable {D : Dr} {W : List Int} {k j : Nat}
def tyOs (D : Dr) (k : Nat) : List Nm := ((D.1[k]?).map fun x => evO x.2.2.2.2).getD []
def tyTx (D : Dr) (k : Nat) : Nat × Nat := ((D.1[k]?).map fun x => x.2.2.1).getD (0, 0)
def feZ : Fe := (-1, (0, 0), none, (0, [], 0), nmZ0, (0, 0), none)
def feX (D : Dr) (k j : Nat) : Fe := ((tyFs D k)[j]?).getD feZ
def svX (D : Dr) (v : Nat) : Sd := (D.2[v]?).getD (nmZ0, (0, 0), [], [])
def clZ : Cl := (nmZ0, nmZ0, nmZ0, (0, 0), [])
def clX (D : Dr) (v c : Nat) : Cl := ((svX D v).2.2.2[c]?).getD clZ
def onZ (x : Fe) : Int := if x.1 < 0 then -2 else x.1
def lF (D : Dr) (k j : Nat) : Int × Int × Int := (onZ (feX D k j), moM (feX D k j).2.1.1 (feX D k j).2.2.1, kdF D (feX D k j).2.2.2.1)
def lG (D : Dr) (k j : Nat) : Int := (feX D k j).2.2.2.2.2.1.1
noncomputable def lS (D : Dr) (k : Nat) : Ly := lzL (tyFs D k).length (lF D k) (ordO (lG D k) (tyFs D k).length) lz0
def kyN : Option (Nat × Tr) → Int
  | none => -2
  | some m => m.2.1
def dfN (D : Dr) (x : Fe) : Int := match x.2.2.2.2.2.2 with
  | none => if kdF D x.2.2.2.1 = 11 then cnN D (tyX D x.2.2.2.1).toNat 0 else 0
  | some v => if kdF D x.2.2.2.1 = 9 ∨ kdF D x.2.2.2.1 = 10 then 0 else dVs D x v
def dfT (D : Dr) (x : Fe) : List Int := match x.2.2.2.2.2.2 with
  | none => []
  | some v => if kdF D x.2.2.2.1 = 9 ∨ kdF D x.2.2.2.1 = 10 then v.2.2.1 else []
noncomputable def mkS (D : Dr) : SF := fun a k j =>
  if a = 0 then D.1.length else if a = 1 then D.2.length else if a = 2 then tyR D k
  else if a = 3 then (if tyR D k = 1 then ((tyFs D k).length : Int) else (tyCs D k).length) else if a = 4 then ((tyOs D k).length : Int)
  else if a = 5 then (if tyR D k = 1 then ((((lS D k).2.1 + 63) / 64 : Nat) : Int) else 0) else if a = 6 then (if tyR D k = 1 then ((lS D k).2.2.1 : Int) else 0)
  else if a = 7 then ((tyTx D k).1 : Int) else if a = 8 then ((tyTx D k).2 : Int)
  else if a = 10 then lG D k j else if a = 11 then (lF D k j).2.1 else if a = 12 then (lF D k j).2.2 else if a = 13 then tyX D (feX D k j).2.2.2.1 else if a = 14 then kyN (feX D k j).2.2.1 else if a = 15 then (lF D k j).1
  else if a = 16 then (lzV (lF D k) (lS D k) j).1 else if a = 17 then (lzV (lF D k) (lS D k) j).2.1 else if a = 18 then (lzV (lF D k) (lS D k) j).2.2
  else if a = 19 then dfN D (feX D k j) else if a = 20 then ((((ordO (lG D k) (tyFs D k).length)[j]?).getD 0 : Nat) : Int)
  else if a = 25 then cnN D k j
  else if a = 30 then ((lS D k).2.2.2.2 j).1 else if a = 31 then ((lS D k).2.2.2.2 j).2.1 else if a = 32 then ((lS D k).2.2.2.2 j).2.2
  else if a = 40 then ((svX D k).2.2.2.length : Int) else if a = 41 then ((svX D k).2.2.1.length : Int) else if a = 42 then ((svX D k).2.1.1 : Int) else if a = 43 then ((svX D k).2.1.2 : Int)
  else if a = 50 then (clX D k j).2.2.2.1.1 else if a = 51 then rcF D (clX D k j).2.1.1 else if a = 52 then rcF D (clX D k j).2.2.1.1 else if a = 53 then ((clX D k j).2.2.2.2.length : Int) else if a = 54 then ((ndS (clX D k j).2.2.2.2).length : Int)
  else 0
def mkN (D : Dr) (W : List Int) : NF := fun a k j =>
  if a = 0 then (tyNm D k).1 else if a = 1 then (feX D k j).2.2.2.2.1.1 else if a = 2 then cnG D k j else if a = 3 then (((tyOs D k)[j]?).getD nmZ0).1 else if a = 4 then (svX D k).1.1 else if a = 5 then (clX D k j).1.1
  else if a = 6 then (((svX D k).2.2.1[j]?).getD nmZ0).1 else if a = 7 then dfT D (feX D k j) else if a = 8 then W else []
def drP (D : Dr) (W : List Int) : Prop := (∀ x ∈ D.1, (x.1 = 0 ∨ x.1 = 1) ∧ (x.1 = 0 → x.2.2.2.2 = []) ∧ (0 < x.2.1.1.length ∧ x.2.2.1.1 ≤ x.2.2.1.2 ∧ x.2.2.1.2 ≤ W.length) ∧ (∀ y ∈ x.2.2.2.1, 0 < y.1.1.length) ∧ (∀ y ∈ evF x.2.2.2.2, 0 < y.2.2.2.2.1.1.length ∧ (y.1 = -1 ∨ 0 ≤ y.1 ∧ y.1 < (evO x.2.2.2.2).length) ∧ (∀ v, y.2.2.2.2.2.2 = some v → (-9223372036854775808 ≤ v.2.1 ∧ v.2.1 < 9223372036854775808) ∧ v.2.2.1.length ≤ 60 ∧ byt v.2.2.1)) ∧ (∀ y ∈ evO x.2.2.2.2, 0 < y.1.length) ∧ (∀ o : Nat, o < (evO x.2.2.2.2).length → ∃ y ∈ evF x.2.2.2.2, y.1 = (o : Int)) ∧ (∀ (i j l : Nat) (a b c : Fe), (evF x.2.2.2.2)[i]? = some a → (evF x.2.2.2.2)[j]? = some b → (evF x.2.2.2.2)[l]? = some c → i ≤ j → j ≤ l → 0 ≤ a.1 → c.1 = a.1 → b.1 = a.1)) ∧
  (∀ x ∈ D.2, (0 < x.1.1.length ∧ x.2.1.1 ≤ x.2.1.2 ∧ x.2.1.2 ≤ W.length) ∧ (∀ y ∈ x.2.2.1, 0 < y.1.length) ∧ ∀ y ∈ x.2.2.2, 0 < y.1.1.length ∧ 0 ≤ y.2.2.2.1.1) ∧ W.length ≤ 8000
end Zo
end
section
section Zp
variable {D : Dr} {W : List Int} {k j v c : Nat}
def noF (D : Dr) : Prop := ∀ X Y, ¬ FSt D X Y
theorem ty_get (hk : k < D.1.length) : ∃ x, D.1[k]? = some x ∧ x ∈ D.1 ∧ tyR D k = x.1 ∧ tyFs D k = evF x.2.2.2.2 ∧ tyCs D k = x.2.2.2.1 ∧ tyOs D k = evO x.2.2.2.2 ∧ tyTx D k = x.2.2.1 ∧ tyNm D k = x.2.1 := sorry
theorem fe_get (hj : j < (tyFs D k).length) : (tyFs D k)[j]? = some (feX D k j) := sorry
theorem sv_get (hv : v < D.2.length) : D.2[v]? = some (svX D v) := sorry
theorem cl_get (hc : c < (svX D v).2.2.2.length) : (svX D v).2.2.2[c]? = some (clX D v c) := sorry
theorem noF.rw (h : noF D) (hk : k < D.1.length) (r : tyR D k = 1) : ∃ x, D.1[k]? = some x ∧ x.1 = 1 ∧ tyFs D k = evF x.2.2.2.2 ∧ ∀ X Y, ¬ Frw D (120 + k) (evF x.2.2.2.2) (evO x.2.2.2.2) (kpL 120 D.1) X Y := sorry
theorem noF.fe (h : noF D) (hk : k < D.1.length) (r : tyR D k = 1) (hj : j < (tyFs D k).length) : (1 ≤ lG D k j ∧ lG D k j ≤ 2000) ∧ kdF D (feX D k j).2.2.2.1 ≠ 99 ∧ (0 ≤ (feX D k j).1 → ¬ 0 < (feX D k j).2.1.1) ∧ (∀ m, (feX D k j).2.2.1 = some m → (¬ 0 < (feX D k j).2.1.1 ∧ (feX D k j).1 < 0) ∧ 1 ≤ m.2.1 ∧ m.2.1 ≤ 9) ∧ ∀ v, (feX D k j).2.2.2.2.2.2 = some v → vW D (feX D k j) v = 0 := sorry
theorem noF.nu (h : noF D) (hk : k < D.1.length) (r : tyR D k = 1) {i : Nat} (ij : i < j) (hj : j < (tyFs D k).length) : lG D k i ≠ lG D k j := sorry
theorem noF.cn (h : noF D) (hk : k < D.1.length) (r : tyR D k = 0) {y : Cn} (hy : (tyCs D k)[j]? = some y) : ¬ cFr y.2.1 ∧ cnN D k j = y.2.1 := sorry
theorem noF.sv (h : noF D) (hv : v < D.2.length) : ∀ X Y, ¬ Fsv D (svX D v).2.2.1 (svX D v).2.2.2 X Y := sorry
theorem noF.cl (h : noF D) (hv : v < D.2.length) (hc : c < (svX D v).2.2.2.length) : (clX D v c).2.2.2.1.1 ≤ 1000 ∧ rcF D (clX D v c).2.1.1 ≠ -2 ∧ rcF D (clX D v c).2.2.1.1 ≠ -2 ∧ (∀ y ∈ (clX D v c).2.2.2.2, spWr D (svX D v).2.2.1 (rcF D (clX D v c).2.2.1.1) y = 0) ∧ ∀ y ∈ ndS (clX D v c).2.2.2.2, ndWr D (svX D v).2.2.1 (rcF D (clX D v c).2.1.1) y = 0 := sorry
end Zp
end
section
section Zq
variable {μ μ' μ'' μ0 ν : ab_M} {d : Nat} {D : Dr} {W : List Int} {k j : Nat}
def frLA (k : Nat) (μ μ' : ab_M) : Prop := ∀ a i, a ≠ 7860 → (a ≠ 7756 ∨ i ≠ 130 ∧ i ≠ 131) → (a ≠ 7788 ∧ a ≠ 7789 ∧ a ≠ 7790 ∨ i < 2880 ∨ 2880 + 24 * k ≤ i) → (a ≠ 7810 ∧ a ≠ 7811 ∧ a ≠ 7812 ∨ i < 960 ∨ 960 + 8 * k ≤ i) → (a ≠ 7771 ∧ a ≠ 7772 ∨ i < 120 ∨ 120 + k ≤ i) → μ' a i = μ a i
theorem tLo.to {t n : Nat} {F : Nat → Int × Int × Int} {s : Ly} (h : tLo ν t n F s) (l : n ≤ 24) (f1 : ∀ a, a = 7771 ∨ a = 7772 → μ a t = ν a t) (f2 : ∀ a i, a = 7788 ∨ a = 7789 ∨ a = 7790 → i / 24 = t → μ a i = ν a i) (f3 : ∀ a i, a = 7810 ∨ a = 7811 ∨ a = 7812 → i / 8 = t → μ a i = ν a i) : tLo μ t n F s := sorry
theorem tw_sc53 {s : Int} (hn : μ 7763 4 = D.1.length) (n30 : D.1.length ≤ 30) (hr : ∀ k, k < D.1.length → μ 7768 (120 + k) = tyR D k) (r01 : ∀ k, k < D.1.length → tyR D k = 0 ∨ tyR D k = 1) (nf : noF D) (hF : ∀ k, k < D.1.length → tyR D k = 1 → tLf μ (120 + k) (tyFs D k).length (lF D k) ∧ tLn μ (120 + k) (tyFs D k).length (lG D k)) : ∀ (m k : Nat) (μ1 : ab_M), k + m = D.1.length → frLA k μ μ1 → (∀ i, i < k → tyR D i = 1 → tLo μ1 (120 + i) (tyFs D i).length (lF D i) (lS D i)) → ∃ μ', (ab_run wt (d + 4) 275 53 [(2, 7756), (0, s), (0, (((120 + k : Nat) : Int)))] [] μ1) = (ab_run wt (d + 4) 275 53 [(2, 7756), (0, s), (0, (((120 + D.1.length : Nat) : Int)))] [] μ') ∧ frLA D.1.length μ μ' ∧ ∀ i, i < D.1.length → tyR D i = 1 → tLo μ' (120 + i) (tyFs D i).length (lF D i) (lS D i) := sorry
end Zq
end
section
section Zr
variable {μ μ' μ'' μ0 ν : ab_M} {d : Nat} {D : Dr} {W : List Int} {k j : Nat}
abbrev Cd := Nat → Nat → List (Int × Int × List (Int × Int))
def cdN (L : List (Int × Int × List (Int × Int))) : List (Int × Int) := L.flatMap fun y => y.2.2
def cdX (D : Dr) (C : List Nm) (fst : Int) (z : Nd) : Int × Int := (z.1, if z.1 = 0 then z.2.1 else if z.1 = 1 ∨ z.1 = 2 then ndV D C fst z else 0)
def cdY (D : Dr) (C : List Nm) (fst sec : Int) (y : Sp) : Int × Int × List (Int × Int) := (y.1, (if y.1 = 2 then -2 else soV D C sec y), y.2.2.map (cdX D C fst))
def mkC (D : Dr) : Cd := fun v c => (clX D v c).2.2.2.2.map (cdY D (svX D v).2.2.1 (rcF D (clX D v c).2.1.1) (rcF D (clX D v c).2.2.1.1))
theorem cdN_map {C : List Nm} {fst sec : Int} : ∀ L : List Sp, cdN (L.map (cdY D C fst sec)) = (ndS L).map (cdX D C fst) := sorry
def tCd (μ : ab_M) (s : Nat) (S : SF) (Q : Cd) : Prop := ∀ v c : Nat, (v : Int) < S 1 0 0 → (c : Int) < S 40 v 0 → (∀ (i : Nat) (y : Int × Int × List (Int × Int)), (Q v c)[i]? = some y → μ 7842 (100 * (10 * (4 * s + v) + c) + i) = y.1 ∧ (y.1 ≠ 2 → μ 7843 (100 * (10 * (4 * s + v) + c) + i) = y.2.1) ∧ μ 7844 (100 * (10 * (4 * s + v) + c) + i) = (cdN ((Q v c).take (i + 1))).length) ∧ ∀ (i : Nat) (z : Int × Int), (cdN (Q v c))[i]? = some z → μ 7848 (100 * (10 * (4 * s + v) + c) + i) = twOp z.1 ∧ (z.1 = 0 ∨ z.1 = 1 ∨ z.1 = 2 → μ 7849 (100 * (10 * (4 * s + v) + c) + i) = z.2)
def tJd (μb μ : ab_M) (D : Dr) : Prop := tDr μb D ∧ frJa μb μ ∧ tJT D D.1.length μ ∧ tJS D D.2.length μ
theorem onZ_lt {x : Td} (p : ∀ y ∈ evF x.2.2.2.2, 0 < y.2.2.2.2.1.1.length ∧ (y.1 = -1 ∨ 0 ≤ y.1 ∧ y.1 < (evO x.2.2.2.2).length) ∧ (∀ v, y.2.2.2.2.2.2 = some v → (-9223372036854775808 ≤ v.2.1 ∧ v.2.1 < 9223372036854775808) ∧ v.2.2.1.length ≤ 60 ∧ byt v.2.2.1)) {y : Fe} (hy : y ∈ evF x.2.2.2.2) : onZ y = -2 ∨ 0 ≤ onZ y ∧ onZ y < (evO x.2.2.2.2).length ∧ onZ y = y.1 := sorry
theorem tJd.lf (h : tJd μ0 μ D) (o : drO D) (p : drP D W) (nf : noF D) (hk : k < D.1.length) (r : tyR D k = 1) : tLf μ (120 + k) (tyFs D k).length (lF D k) ∧ tLn μ (120 + k) (tyFs D k).length (lG D k) := sorry
end Zr
end
section
section Zs
variable {μ μ' μ'' μ0 ν : ab_M} {d : Nat} {D : Dr} {W : List Int} {k j : Nat}
theorem cnG_get {y : Cn} (h : (tyCs D k)[j]? = some y) : cnG D k j = y.1.1 := sorry
theorem tJd.ty (h : tJd μ0 μ D) (g : frLA D.1.length μ μ') (lo : ∀ i, i < D.1.length → tyR D i = 1 → tLo μ' (120 + i) (tyFs D i).length (lF D i) (lS D i)) (o : drO D) (p : drP D W) (nf : noF D) (hk : k < D.1.length) : tTy μ' (30 * 4 + k) (mkS D) (mkN D W) k := sorry
end Zs
end
section
section Zt
variable {μ μ' μ'' μ0 ν : ab_M} {d : Nat} {D : Dr} {W : List Int} {v s : Nat}
theorem rcF_v {nm : List Int} (h : rcF D nm ≠ -2) : rcF D nm = tyF D nm ∧ 0 ≤ tyF D nm ∧ tyR D (tyF D nm).toNat ≠ 0 := sorry
theorem tJd.sv (h : tJd μ0 μ D) (g : frLA D.1.length μ μ') (p : drP D W) (nf : noF D) (hv : v < D.2.length) : tSv μ' (4 * 4 + v) (mkS D) (mkN D W) v := sorry
theorem spWr_v {C : List Nm} {sec : Int} {y : Sp} (h : spWr D C sec y = 0) (k : y.1 = 0 ∨ y.1 = 1) (hs : 0 ≤ sec) : 0 ≤ soV D C sec y := sorry
theorem ndWr_v {C : List Nm} {fst : Int} {y : Nd} (h : ndWr D C fst y = 0) (k : y.1 = 1 ∨ y.1 = 2) (hs : 0 ≤ fst) : 0 ≤ ndV D C fst y := sorry
theorem tJd.cd (h : tJd μ0 μ D) (g : frLA D.1.length μ μ') (o : drO D) (nf : noF D) : tCd μ' 4 (mkS D) (mkC D) := sorry
end Zt
end
section
section Zu
variable {μ μ' μ'' μ0 ν : ab_M} {d : Nat} {S : SF} {N : NF} {Q : Cd} {s nt nv : Nat}
theorem tSc.kept (hs : s < 4) (sc : scOK S N) (h : tSc μ 4 S N) (n1 : S 0 0 0 = nt) (n2 : S 1 0 0 = nv) (k1 : μ' 7763 s = nt ∧ μ' 7764 s = nv ∧ μ' 7857 s = (N 8 0 0).length) (cp : ∀ g, g < 10 → ∀ a ∈ kgL g, ∀ i, i < (if g = 9 then (N 8 0 0).length else if g < 5 then kgU g / 30 * nt else kgU g / 4 * nv) → μ' a (kgU g * s + i) = μ a (4 * kgU g + i)) : tSc μ' s S N := sorry
theorem tCd.kept (sc : scOK S N) (h : tCd μ 4 S Q) (n2 : S 1 0 0 = nv) (lQ : ∀ v c : Nat, (v : Int) < S 1 0 0 → (c : Int) < S 40 v 0 → (Q v c).length ≤ 100 ∧ (cdN (Q v c)).length ≤ 100) (cp : ∀ g, g < 10 → ∀ a ∈ kgL g, ∀ i, i < (if g = 9 then (N 8 0 0).length else if g < 5 then kgU g / 30 * nt else kgU g / 4 * nv) → μ' a (kgU g * s + i) = μ a (4 * kgU g + i)) : tCd μ' s S Q := sorry
end Zu
end
section
section Zv
variable {μ : ab_M} {D : Dr} {W : List Int} {k j v c : Nat}
def drL (D : Dr) : Prop := D.1.length ≤ 30 ∧ D.2.length ≤ 4 ∧ (∀ x ∈ D.1, (x.1 = 0 → x.2.2.2.1.length ≤ 16) ∧ (x.1 = 1 → (evF x.2.2.2.2).length ≤ 24 ∧ (evO x.2.2.2.2).length ≤ 8)) ∧ ∀ x ∈ D.2, x.2.2.1.length ≤ 8 ∧ x.2.2.2.length ≤ 10 ∧ ∀ y ∈ x.2.2.2, y.2.2.2.2.length ≤ (ndS y.2.2.2.2).length ∧ (ndS y.2.2.2.2).length ≤ 100
theorem tDr.len (h : tDr μ D) : drL D := sorry
theorem nmOK_of {l : List Int} (h : nmT l) (p : 0 < l.length) : nmOK l := sorry
theorem cnN_rg : -32768 ≤ cnN D k j ∧ cnN D k j < 32768 := sorry
theorem kd_ty {t : Tr} (h : trO t) (r01 : ∀ k, k < D.1.length → tyR D k = 0 ∨ tyR D k = 1) (n99 : kdF D t ≠ 99) : (0 ≤ kdF D t ∧ kdF D t ≤ 12) ∧ (kdF D t < 11 → tyX D t = -2) ∧ (11 ≤ kdF D t → 0 ≤ tyX D t ∧ tyX D t < D.1.length ∧ tyR D (tyX D t).toNat = kdF D t - 11) := sorry
theorem dfN_rg {x : Fe} (h : ∀ v, x.2.2.2.2.2.2 = some v → (-9223372036854775808 ≤ v.2.1 ∧ v.2.1 < 9223372036854775808) ∧ v.2.2.1.length ≤ 60 ∧ byt v.2.2.1) : (-9223372036854775808 ≤ dfN D x ∧ dfN D x < 9223372036854775808) ∧ (dfT D x).length ≤ 60 ∧ byt (dfT D x) := sorry
theorem drP.r01 (p : drP D W) : ∀ k, k < D.1.length → tyR D k = 0 ∨ tyR D k = 1 := sorry
theorem lS_ok (nf : noF D) (l : drL D) (hk : k < D.1.length) (r : tyR D k = 1) : (tyFs D k).length ≤ 24 ∧ lzI (lS D k) (2 * (tyFs D k).length) ∧ lzG (tyFs D k).length (lF D k) (lS D k) ∧ ∀ j, j < (tyFs D k).length → lzT (lF D k) (lS D k) j ∧ (0 ≤ (lF D k j).1 → 0 ≤ ((lS D k).2.2.2.2 (lF D k j).1.toNat).1) := sorry
theorem lz_rg {s : Ly} {n m : Nat} {F : Nat → Int × Int × Int} (h : lzG n F s) (hI : lzI s m) (j : Nat) : (-2 ≤ (lzV F s j).1 ∧ (lzV F s j).1 < 64 * m ∨ (lzV F s j).1 = -2) ∧ ((lzV F s j).2.1 = -2 ∨ 0 ≤ (lzV F s j).2.1 ∧ 2 * (lzV F s j).2.1 < m) ∧ (-2 ≤ (lzV F s j).2.2 ∧ (lzV F s j).2.2 < 64 * m ∨ (lzV F s j).2.2 = -2) := sorry
end Zv
end
section
section Zw
variable {μ : ab_M} {D : Dr} {W : List Int} {k j v c : Nat}
theorem mk_fd (nf : noF D) (l : drL D) (o : drO D) (p : drP D W) (hk : k < D.1.length) (r : tyR D k = 1) (hj : j < (tyFs D k).length) : fdOK (mkS D) (mkN D W) k j := sorry
theorem mk_ok (nf : noF D) (l : drL D) (o : drO D) (p : drP D W) : scOK (mkS D) (mkN D W) := sorry
end Zw
end
section
section Zx
variable {μ : ab_M} {D : Dr} {W : List Int} {k j v c : Nat}
theorem mk_ct (hk : (k : Int) < mkS D 0 0 0) (r : mkS D 2 k 0 = 1) : k < D.1.length ∧ tyR D k = 1 ∧ fCt (mkS D) k = (tyFs D k).length := sorry
theorem mk_nu (nf : noF D) : nuOK (mkS D) := sorry
theorem mk_ky (nf : noF D) (l : drL D) (o : drO D) (p : drP D W) : kyK (mkS D) := sorry
theorem mk_20 {i : Nat} (hi : i < (tyFs D k).length) : ∃ q, (ordO (lG D k) (tyFs D k).length)[i]? = some q ∧ mkS D 20 k i = q ∧ q < (tyFs D k).length := sorry
theorem mk_bn (nf : noF D) : bnOK (mkS D) := sorry
theorem mk_n7 (p : drP D W) : n7OK (mkS D) (mkN D W) := sorry
theorem mk_on (p : drP D W) : onOK (mkS D) := sorry
theorem cn_cut : kCut 11 (cnN D k j) = cnN D k j := sorry
theorem mk_st (nf : noF D) (o : drO D) : stOK (mkS D) := sorry
def xS4 (F : Nat → Int × Int × Int) (j : Nat) : Nat := if (F j).1 < 0 then 4 * j else 4 * (F j).1.toNat + 3
def xF4 (F : Nat → Int × Int × Int) (j : Nat) : Nat := if (F j).1 < 0 then 4 * j + 1 else 4 * (F j).1.toNat + 2
def xP2 (F : Nat → Int × Int × Int) (j : Nat) : Nat := if (F j).1 < 0 then 2 * j else 2 * (F j).1.toNat + 1
theorem lzV_b {F : Nat → Int × Int × Int} {s : Ly} : ((lzV F s j).1 = -2 ∨ (lzV F s j).1 = (lzK F s (xS4 F j)).1) ∧ (lzV F s j).2.2 = (lzK F s (xF4 F j)).1 ∧ ((lzV F s j).2.1 = -2 ∨ (lzV F s j).2.1 = lzJ s (xP2 F j)) ∧ (lzK F s (xS4 F j)).2 = (if (F j).1 < 0 then (kBits (F j).2.2).toNat else 64) ∧ (lzK F s (xF4 F j)).2 = (if (F j).1 < 0 then 1 else 16) := sorry
theorem lzV_i {n : Nat} {F : Nat → Int × Int × Int} {s : Ly} (w : lzW n F s) (t : lzT F s j) (hj : j < n) (m0 : 0 ≤ (F j).1 → (F j).2.1 = 0) (tg : 0 ≤ (F j).1 → 0 ≤ (s.2.2.2.2 (F j).1.toNat).1) : (0 ≤ (lzV F s j).1 ↔ (F j).2.1 < 2 ∧ isNk (F j).2.2) ∧ (0 ≤ (lzV F s j).2.1 ↔ ¬ ((F j).2.1 < 2 ∧ isNk (F j).2.2)) ∧ (0 ≤ (lzV F s j).2.2 ↔ 0 ≤ (F j).1 ∨ (F j).2.1 = 1 ∧ (F j).2.2 ≠ 12) := sorry
theorem mk_la (nf : noF D) (l : drL D) (o : drO D) (p : drP D W) : laOK (mkS D) := sorry
theorem mk_lo (nf : noF D) (l : drL D) (p : drP D W) : loOK (mkS D) := sorry
end Zx
end
