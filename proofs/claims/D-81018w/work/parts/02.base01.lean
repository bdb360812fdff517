set_option maxRecDepth 16384
section
section Hp
variable {μ μ' μ'' : ab_M} {d : Nat} {A cr ci cb b k : Nat} {S : SF} {N : NF} {n : Nat} {ty : Nat → Nat} {V : Nat → Nat → List It} {U : Nat → List Un} {ni nu us : Nat} {X : Rsv}
def itT (l : List Int) : It := (0, [], 0, l, 0)
theorem CM.cnt (h : CM X S μ A cr ci cb n ty V U ni nu us) : μ A 3 = n ∧ n ≤ cr ∧ μ A 8 = bsF S ty n ∧ bsF S ty n ≤ 24 * cr ∧ μ A 17 = ni ∧ ni ≤ ci ∧ μ A 26 = nu ∧ nu ≤ ci ∧ μ A 33 = us ∧ us ≤ cb := sorry
def sbM (μ : ab_M) (A a o s us n : Nat) : ab_M := ab_up (ab_up (ab_up (ab_cp (ab_up μ (msA A 9) s 1) a o (msA A 32) us n) A 33 ((us + n : Nat) : Int)) (msA A 12) s us) (msA A 13) s n
theorem c_setBytes94 {s a o la : Nat} {l : List Int} (hm : isM A cr ci cb) (hs : s < 24 * cr) (ha : wc_ar a = (4, la)) (hn : ¬ inM A a) (hl : o + l.length ≤ la) (hb : cBy μ a o l) (hu : μ A 33 = us) (hu2 : us + l.length ≤ cb) :
    (ab_run wc (d + 2) 510 94 [(3, 0), (2, A), (3, 0), (3, 0), (2, a), (0, o), (0, (l.length)), (3, 0), (0, s), (0, 0)] [(0, 1), (0, s), (2, (msA A 9))] μ) = some ((3, 0), sbM μ A a o s us l.length) := sorry
theorem c_setBytes {r j a o la : Nat} {l : List Int} (hm : isM A cr ci cb) (hr : r < n) (hj : j < fCt S (ty r)) (h1 : S 11 (ty r) j < 2) (h0 : fSo (S 12 (ty r) j) = 1) (ha : wc_ar a = (4, la)) (hn : ¬ inM A a) (hl : o + l.length ≤ la) (ho : la < 100000) (hb : cBy μ a o l) (hu2 : us + l.length ≤ cb) (hs : cMS μ A k b S N) (hc : CM X S μ A cr ci cb n ty V U ni nu us) :
    R3 (ab_run wc (d + 3) 510 0 [(2, 1), (2, A), (0, r), (0, j), (2, a), (0, o), (0, (l.length)), (3, 0), (3, 0), (3, 0)] [] μ) (fun μ' => if isPl S (ty r) j ∧ l = N 7 (ty r) j then CM X S μ' A cr ci cb n ty (upV (lvO S (ty r) r j V) r j []) U ni nu us ∧ frM A μ μ' else CM X S μ' A cr ci cb n ty (upV (lvO S (ty r) r j V) r j [itT l]) U ni nu (us + l.length) ∧ frM A μ μ') := sorry
end Hp
end
section
section Hp
variable {μ μ' μ'' : ab_M} {d : Nat} {A cr ci cb b k : Nat} {S : SF} {N : NF} {n : Nat} {ty : Nat → Nat} {V : Nat → Nat → List It} {U : Nat → List Un} {ni nu us : Nat} {X : Rsv}
theorem fCt_le {t : Nat} (h : scOK S N) (ht : (t : Int) < S 0 0 0 ∧ S 2 t 0 = 1) : t < 30 ∧ fCt S t ≤ 24 ∧ (fCt S t : Int) = S 3 t 0 := sorry
theorem bsF_le (h : scOK S N) (hc : CM X S μ A cr ci cb n ty V U ni nu us) : ∀ r, r ≤ n → bsF S ty r ≤ 24 * r := sorry
def keepI (A : Nat) (μ μ' : ab_M) : Prop := (∀ f, itF f → ∀ i, μ' (msA A f) i = μ (msA A f) i) ∧ ∀ f, slF f → ∀ i : Nat, (i : Int) < μ A 8 → μ' (msA A f) i = μ (msA A f) i
theorem c_newRecX {t : Nat} (hm : isM A cr ci cb) (hn : n < cr) (ht : (t : Int) < S 0 0 0 ∧ S 2 t 0 = 1) (hs : cMS μ A k b S N) (hc : CM X S μ A cr ci cb n ty V U ni nu us) :
    R0 (ab_run wc (d + 2) 462 0 [(2, 1), (2, A), (0, t)] [] μ) (fun v μ' => v = n ∧ CM X S μ' A cr ci cb (n + 1) (upT ty n t) (nwV V n) (nwU U n) ni nu us ∧ frM A μ μ' ∧ keepI A μ μ' ∧ ∀ i, bsF S ty n ≤ i → i < bsF S ty n + fCt S t → μ' (msA A 10) i = 0) := sorry
theorem c_newRec {t : Nat} (hm : isM A cr ci cb) (hn : n < cr) (ht : (t : Int) < S 0 0 0 ∧ S 2 t 0 = 1) (hs : cMS μ A k b S N) (hc : CM X S μ A cr ci cb n ty V U ni nu us) :
    R0 (ab_run wc (d + 2) 462 0 [(2, 1), (2, A), (0, t)] [] μ) (fun v μ' => v = n ∧ CM X S μ' A cr ci cb (n + 1) (upT ty n t) (nwV V n) (nwU U n) ni nu us ∧ frM A μ μ' ∧ ∀ i, bsF S ty n ≤ i → i < bsF S ty n + fCt S t → μ' (msA A 10) i = 0) := sorry
end Hp
end
section
section Hp
variable {μ μ' μ'' : ab_M} {d : Nat} {A cr ci cb b k : Nat} {S : SF} {N : NF} {n : Nat} {ty : Nat → Nat} {V : Nat → Nat → List It} {U : Nat → List Un} {ni nu us : Nat} {X : Rsv}
def itR (c : Nat) : It := (0, [], 0, [], c)
theorem upT_lt {t r : Nat} (h : r < n) : upT ty n t r = ty r := sorry
theorem bsF_up {t : Nat} : ∀ r, r ≤ n → bsF S (upT ty n t) r = bsF S ty r := sorry
theorem c_recordIn1 {r j : Nat} {t : It} (hm : isM A cr ci cb) (hr : r < n) (hj : j < fCt S (ty r)) (h1 : S 11 (ty r) j < 2) (h0 : fSo (S 12 (ty r) j) = 2) (hc : CM X S μ A cr ci cb n ty V U ni nu us) (hv : V r j = [t]) (hh : t.2.2.2.2 ≠ hole) :
    (ab_run wc (d + 1) 496 0 [(2, 1), (2, A), (0, r), (0, j), (3, 0)] [] μ) = some ((0, (t.2.2.2.2 : Int)), μ) := sorry
theorem c_recordIn0 {r j t' : Nat} (hm : isM A cr ci cb) (hr : r < n) (hj : j < fCt S (ty r)) (h1 : S 11 (ty r) j < 2) (h0 : fSo (S 12 (ty r) j) = 2) (hs : cMS μ A k b S N) (hc : CM X S μ A cr ci cb n ty V U ni nu us) (hv : V r j = []) (hn : n < cr) (h13 : S 13 (ty r) j = t') (ht : (t' : Int) < S 0 0 0 ∧ S 2 t' 0 = 1) :
    R0 (ab_run wc (d + 3) 496 0 [(2, 1), (2, A), (0, r), (0, j), (3, 0)] [] μ) (fun v μ' => v = n ∧ CM X S μ' A cr ci cb (n + 1) (upT ty n t') (upV (nwV (lvO S (ty r) r j V) n) r j [itR n]) (nwU U n) ni nu us ∧ frM A μ μ' ∧ ∀ i, bsF S ty n ≤ i → i < bsF S ty n + fCt S t' → μ' (msA A 10) i = 0) := sorry
end Hp
end
section
section Hp
variable {μ μ' μ'' : ab_M} {d : Nat} {A cr ci cb b k : Nat} {S : SF} {N : NF} {n : Nat} {ty : Nat → Nat} {V : Nat → Nat → List It} {U : Nat → List Un} {ni nu us : Nat} {X : Rsv}
theorem CM.many {r j : Nat} (h : CM X S μ A cr ci cb n ty V U ni nu us) (hr : r < n) (hj : j < fCt S (ty r)) (h1 : 2 ≤ S 11 (ty r) j) :
    ∃ (s : Nat) (c : List Nat), s < 24 * cr ∧ (s : Int) < μ A 8 ∧ μ (msA A 5) r + j = s ∧ cMy μ A us ni (fSo (S 12 (ty r) j)) (fKs (S 11 (ty r) j) (S 14 (ty r) j)) s (V r j) c ∧
      ∀ (μ' : ab_M) (ni' us' : Nat) (l : List It) (c' : List Nat), us ≤ us' → us' ≤ cb → ni ≤ ni' → ni' ≤ ci → (∀ i, i ≠ 33 → i ≠ 17 → μ' A i = μ A i) → μ' A 33 = us' → μ' A 17 = ni' → cMy μ' A us' ni' (fSo (S 12 (ty r) j)) (fKs (S 11 (ty r) j) (S 14 (ty r) j)) s l c' → (∀ i ∈ c', i ∈ c ∨ ni ≤ i) →
      (∀ f i, msO f ≠ 0 → (slF f → i ≠ s) → (itF f → i < ni ∧ i ∉ c) → (f = 32 → i < us) → μ' (msA A f) i = μ (msA A f) i) → CM X S μ' A cr ci cb n ty (upV V r j l) U ni' nu us' := sorry
theorem nx_app1 {c : List Nat} {i k : Nat} (h : k < c.length) : nx (c ++ [i]) k = nx c k := sorry
theorem nx_app2 {c : List Nat} {i : Nat} : nx (c ++ [i]) c.length = i := sorry
theorem nx_end {c : List Nat} {k : Nat} (h : c.length ≤ k) : nx c k = -1 := sorry
end Hp
end
section
section Hp
variable {μ μ' μ'' : ab_M} {A : Nat}
theorem cIt.to' {so ks i used used' : Nat} {t : It} (h : cIt μ A used so ks i t) (h1 : ∀ f, itF f → f ≠ 22 → μ' (msA A f) i = μ (msA A f) i) (h3 : ∀ i, i < used → μ' (msA A 32) i = μ (msA A 32) i) (hu : used ≤ used') : cIt μ' A used' so ks i t := sorry
theorem nx_some {c : List Nat} {k x : Nat} (h : c[k]? = some x) : nx c k = x := sorry
theorem cMy.app {so ks s us us' ni ni' i : Nat} {l : List It} {c : List Nat} {t : It} (h : cMy μ A us ni so ks s l c) (hi : ni ≤ i) (hi2 : i < ni') (hu : us ≤ us')
    (e16 : μ' (msA A 16) s = ((l.length + 1 : Nat) : Int)) (e15 : μ' (msA A 15) s = i) (e14 : μ' (msA A 14) s = if l = [] then (i : Int) else μ (msA A 14) s) (e22 : μ' (msA A 22) i = -1) (it : cIt μ' A us' so ks i t)
    (el : ∀ x ∈ c, μ' (msA A 22) x = if (x : Int) = nx c (c.length - 1) then (i : Int) else μ (msA A 22) x) (eo : ∀ x ∈ c, ∀ f, itF f → f ≠ 22 → μ' (msA A f) x = μ (msA A f) x) (eb : ∀ x, x < us → μ' (msA A 32) x = μ (msA A 32) x) :
    cMy μ' A us' ni' so ks s (l ++ [t]) (c ++ [i]) := sorry
end Hp
end
section
section Hp
variable {μ : ab_M} {d : Nat} {A cr ci cb b k : Nat} {S : SF} {N : NF} {n : Nat} {ty : Nat → Nat} {V : Nat → Nat → List It} {U : Nat → List Un} {ni nu us : Nat} {X : Rsv}
theorem c_isSet {r j : Nat} {s : Int} (hm : isM A cr ci cb) (hr : r < n) (hj : j < fCt S (ty r)) (hs : cMS μ A k b S N) (hc : CM X S μ A cr ci cb n ty V U ni nu us) (he : s = (bsF S ty r : Int) + j) :
    (ab_run wc (d + 1) 424 0 [(2, A), (2, (fdA b (ty r) j)), (0, s)] [] μ) = some ((0, if V r j = [] then 0 else 1), μ) := sorry
end Hp
end
section
section Hp
variable {μ μ' μ'' : ab_M} {A : Nat}
theorem ix_ins {α : Type} {c1 c2 : List α} {i x : α} {k : Nat} (h : (c1 ++ i :: c2)[k]? = some x) : (k < c1.length ∧ (c1 ++ c2)[k]? = some x ∧ c1[k]? = some x) ∨ (k = c1.length ∧ x = i) ∨ (c1.length < k ∧ (c1 ++ c2)[k - 1]? = some x ∧ c2[k - 1 - c1.length]? = some x) := sorry
theorem nx_l {c d : List Nat} {k : Nat} (h : k < c.length) : nx (c ++ d) k = nx c k := sorry
theorem nx_r {c d : List Nat} {k : Nat} (h : c.length ≤ k) : nx (c ++ d) k = nx d (k - c.length) := sorry
theorem nx_c {d : List Nat} {i k : Nat} : nx (i :: d) (k + 1) = nx d k := sorry
theorem nx_0 {d : List Nat} {i : Nat} : nx (i :: d) 0 = i := sorry
theorem cMy.ins {so ks s us us' ni ni' i : Nat} {l1 l2 : List It} {c1 c2 : List Nat} {t : It} (h : cMy μ A us ni so ks s (l1 ++ l2) (c1 ++ c2)) (hl : c1.length = l1.length) (hi : ni ≤ i) (hi2 : i < ni') (hu : us ≤ us')
    (e16 : μ' (msA A 16) s = (((l1 ++ l2).length + 1 : Nat) : Int)) (e15 : μ' (msA A 15) s = if c2 = [] then (i : Int) else μ (msA A 15) s) (e14 : μ' (msA A 14) s = if c1 = [] then (i : Int) else μ (msA A 14) s) (e22 : μ' (msA A 22) i = nx c2 0) (it : cIt μ' A us' so ks i t)
    (el : ∀ x ∈ c1 ++ c2, μ' (msA A 22) x = if c1 ≠ [] ∧ (x : Int) = nx c1 (c1.length - 1) then (i : Int) else μ (msA A 22) x) (eo : ∀ x ∈ c1 ++ c2, ∀ f, itF f → f ≠ 22 → μ' (msA A f) x = μ (msA A f) x) (eb : ∀ x, x < us → μ' (msA A 32) x = μ (msA A 32) x) :
    cMy μ' A us' ni' so ks s (l1 ++ t :: l2) (c1 ++ i :: c2) := sorry
end Hp
end
section
section Hp
variable {μ μ' μ'' : ab_M} {A : Nat}
theorem ix_del {α : Type} {c1 c2 : List α} {i x : α} {k : Nat} (h : (c1 ++ c2)[k]? = some x) : (k < c1.length ∧ (c1 ++ i :: c2)[k]? = some x) ∨ (c1.length ≤ k ∧ (c1 ++ i :: c2)[k + 1]? = some x) := sorry
theorem cMy.del {so ks s us ni i : Nat} {l1 l2 : List It} {c1 c2 : List Nat} {t : It} (h : cMy μ A us ni so ks s (l1 ++ t :: l2) (c1 ++ i :: c2)) (hl : c1.length = l1.length)
    (e16 : μ' (msA A 16) s = ((l1 ++ l2).length : Int)) (e15 : c1 ++ c2 ≠ [] → μ' (msA A 15) s = if c2 = [] then nx c1 (c1.length - 1) else μ (msA A 15) s) (e14 : μ' (msA A 14) s = if c1 = [] then nx c2 0 else μ (msA A 14) s)
    (el : ∀ x ∈ c1 ++ c2, μ' (msA A 22) x = if c1 ≠ [] ∧ (x : Int) = nx c1 (c1.length - 1) then nx c2 0 else μ (msA A 22) x) (eo : ∀ x ∈ c1 ++ c2, ∀ f, itF f → f ≠ 22 → μ' (msA A f) x = μ (msA A f) x) (eb : ∀ x, x < us → μ' (msA A 32) x = μ (msA A 32) x) :
    cMy μ' A us ni so ks s (l1 ++ l2) (c1 ++ c2) := sorry
end Hp
end
section
section Hp
variable {μ μ' : ab_M} {A cr ci cb : Nat} {S : SF} {n : Nat} {ty : Nat → Nat} {V : Nat → Nat → List It} {U : Nat → List Un} {ni nu us : Nat} {X : Rsv}
theorem CM.push {r j : Nat} (h : CM X S μ A cr ci cb n ty V U ni nu us) (hr : r < n) (hj : j < fCt S (ty r)) (h1 : 2 ≤ S 11 (ty r) j) (hn : ni < ci) :
    ∃ (s la : Nat), s < 24 * cr ∧ (s : Int) < μ A 8 ∧ μ (msA A 5) r + j = s ∧ μ (msA A 16) s = (V r j).length ∧ (V r j ≠ [] → μ (msA A 15) s = la ∧ la < ni) ∧
      ∀ (μ' : ab_M) (us' : Nat) (t : It), us ≤ us' → us' ≤ cb → (∀ i, i ≠ 33 → i ≠ 17 → μ' A i = μ A i) → μ' A 33 = us' → μ' A 17 = ((ni + 1 : Nat) : Int) →
      μ' (msA A 16) s = (((V r j).length + 1 : Nat) : Int) → μ' (msA A 15) s = ni → μ' (msA A 14) s = (if V r j = [] then (ni : Int) else μ (msA A 14) s) → μ' (msA A 22) ni = -1 → cIt μ' A us' (fSo (S 12 (ty r) j)) (fKs (S 11 (ty r) j) (S 14 (ty r) j)) ni t →
      (∀ x, x < ni → μ' (msA A 22) x = if V r j ≠ [] ∧ x = la then (ni : Int) else μ (msA A 22) x) →
      (∀ f i, msO f ≠ 0 → (slF f → i ≠ s) → (itF f → i < ni ∧ f ≠ 22) → (f = 32 → i < us) → μ' (msA A f) i = μ (msA A f) i) → CM X S μ' A cr ci cb n ty (upV V r j (V r j ++ [t])) U (ni + 1) nu us' := sorry
end Hp
end
section
section Hp
variable {μ μ' : ab_M} {A : Nat}
theorem cUn.app {r us us' nu i : Nat} {l : List Un} {c : List Nat} {t : Un} (h : cUn μ A us nu r l c) (hi : i = nu) (hu : us ≤ us')
    (e7 : μ' (msA A 7) r = i) (e6 : μ' (msA A 6) r = if l = [] then (i : Int) else μ (msA A 6) r) (e31 : μ' (msA A 31) i = -1) (it : μ' (msA A 27) i = t.1 ∧ μ' (msA A 28) i = t.2.1 ∧ cMt μ' A us' 29 30 i t.2.2)
    (el : ∀ x ∈ c, μ' (msA A 31) x = if (x : Int) = nx c (c.length - 1) then (i : Int) else μ (msA A 31) x) (eo : ∀ x ∈ c, ∀ f, 27 ≤ f → f < 31 → μ' (msA A f) x = μ (msA A f) x) (eb : ∀ x, x < us → μ' (msA A 32) x = μ (msA A 32) x) :
    cUn μ' A us' (nu + 1) r (l ++ [t]) (c ++ [i]) := sorry
end Hp
end
section
section Tc
variable {μ μ' : ab_M} {d : Nat}
def tSg (μ : ab_M) : Int → List Nat → Int → Prop
  | x, [], y => x = y
  | x, i :: c, y => x = i ∧ tSg μ (μ 7870 i) c y
theorem tSg_app : ∀ (c1 : List Nat) (x : Int) (c2 : List Nat) (y : Int), tSg μ x (c1 ++ c2) y ↔ ∃ z, tSg μ x c1 z ∧ tSg μ z c2 y := sorry
theorem tSg.to : ∀ {c : List Nat} {x y : Int}, tSg μ x c y → (∀ i ∈ c, μ' 7870 i = μ 7870 i) → tSg μ' x c y := sorry
theorem tSg_last : ∀ {c : List Nat} {x y : Int} {l : Nat}, tSg μ x (c ++ [l]) y → μ 7870 l = y := sorry
theorem tSg.led {c : List Nat} {x y z : Int} {l : Nat} (h : tSg μ x (c ++ [l]) y) (f : ∀ i ∈ c, μ' 7870 i = μ 7870 i) (e : μ' 7870 l = z) : tSg μ' x (c ++ [l]) z := sorry
theorem tSg_end : ∀ {c : List Nat} {x y z : Int}, tSg μ x c y → c = [] → x = y := sorry
def tFst (μ : ab_M) (f : Int) : List Nat → Int
  | [] => -2
  | i :: c => if μ 7869 i = f then i else tFst μ f c
def tLead (μ : ab_M) (f : Int) : List Nat → Nat
  | [] => 0
  | i :: c => if μ 7869 i = f then tLead μ f c + 1 else 0
def tIts (μ : ab_M) (f : Int) : List Nat → Nat
  | [] => 0
  | i :: c => if μ 7869 i = f then tLead μ f c + 1 else tIts μ f c
theorem tw_findL {f : Int} : ∀ (c : List Nat) (x : Int), tSg μ x c (-2) → (∀ i ∈ c, i < 73600) → (ab_run wt (d + 1) 61 7 [(2, 7756), (3, 0), (0, f), (0, x)] [] μ) = some ((0, tFst μ f c), μ) := sorry
theorem tw_find {f : Int} {r : Nat} {c : List Nat} (h : tSg μ (μ 7871 r) c (-2)) (hr : r < 73600) (b : ∀ i ∈ c, i < 73600) : (ab_run wt (d + 1) 61 0 [(2, 7756), (0, r), (0, f), (3, 0)] [] μ) = some ((0, tFst μ f c), μ) := sorry
theorem tw_itemsL {f : Int} : ∀ (c : List Nat) (x : Int) (n : Nat), tSg μ x c (-2) → (∀ i ∈ c, i < 73600) → n + c.length < 2147483648 → (ab_run wt (d + 1) 113 10 [(2, 7756), (3, 0), (0, f), (0, n), (0, x)] [] μ) = some ((0, ((n + tLead μ f c : Nat) : Int)), μ) := sorry
theorem tFst_seg {f : Int} : ∀ (c : List Nat) (x : Int), tSg μ x c (-2) → ∃ c' : List Nat, tSg μ (tFst μ f c) c' (-2) ∧ (∀ i ∈ c', i ∈ c) ∧ tIts μ f c = tLead μ f c' ∧ c'.length ≤ c.length := sorry
theorem tw_items {f : Int} {r : Nat} {c : List Nat} (h : tSg μ (μ 7871 r) c (-2)) (hr : r < 73600) (b : ∀ i ∈ c, i < 73600) (hl : c.length < 2147483648) : (ab_run wt (d + 2) 113 0 [(2, 7756), (0, r), (0, f), (3, 0), (3, 0)] [] μ) = some ((0, ((tIts μ f c : Nat) : Int)), μ) := sorry
end Tc
end
section
section Tc
variable {μ μ' : ab_M} {d : Nat}
def lsI : List Nat → Int
  | [] => -2
  | [i] => i
  | _ :: i :: c => lsI (i :: c)
theorem lsI_app : ∀ (c : List Nat) (l : Nat), lsI (c ++ [l]) = l := sorry
theorem ls_cases (c : List Nat) : c = [] ∧ lsI c = -2 ∨ ∃ (c' : List Nat) (l : Nat), c = c' ++ [l] ∧ lsI c = (l : Int) := sorry
theorem ls_ne {c : List Nat} {l : Nat} (h : lsI c = (l : Int)) : l ∈ c := sorry
def lkM (μ : ab_M) (r : Nat) (last : Int) (e : Nat) : ab_M := if last < 0 then ab_up (ab_up μ 7870 e (μ 7871 r)) 7871 r e else ab_up (ab_up μ 7870 e (μ 7870 last.toNat)) 7870 last.toNat e
theorem lkM_o {a i r e : Nat} {last : Int} (h1 : a ≠ 7870 ∨ i ≠ e ∧ (last < 0 ∨ i ≠ last.toNat)) (h2 : a ≠ 7871 ∨ i ≠ r) : lkM μ r last e a i = μ a i := sorry
theorem tw_link {r e : Nat} {last : Int} (hr : r < 73600) (he : e < 73600) (hl : last < 73600) : (ab_run wt (d + 1) 154 0 [(2, 7756), (0, r), (0, last), (0, e)] [] μ) = some ((3, 0), lkM μ r last e) := sorry
theorem tSg.link {r e : Nat} {c1 c2 : List Nat} {y : Int} (h : tSg μ (μ 7871 r) (c1 ++ c2) y) (n : (c1 ++ c2).Nodup) (he : e ∉ c1 ++ c2) : tSg (lkM μ r (lsI c1) e) (lkM μ r (lsI c1) e 7871 r) (c1 ++ e :: c2) y := sorry
def tWg (mode : Int) (first : Bool) : Int := 1 + (if 1 < mode ∧ first = true then 1 else 0) + (if mode = 3 then 1 else 0)
theorem tWg_rg {mode : Int} {f : Bool} : 1 ≤ tWg mode f ∧ tWg mode f ≤ 3 := sorry
theorem tw_slotOf {e m : Nat} (he : e < 73600) (h : e / 4600 = m) : (ab_run wt (d + 1) 289 0 [(2, 7756), (0, e)] [] μ) = some ((0, (m : Int)), μ) := sorry
def tIsF (μ : ab_M) (c : List Nat) (f : Int) : Bool := decide (lsI c < 0 ∨ μ 7869 (lsI c).toNat ≠ f)
theorem tw_putInL {r e f : Nat} (hf : f < 3600) : ∀ (c1 c2 c0 : List Nat) (x : Int), tSg μ x (c1 ++ c2) (-2) → (∀ i ∈ c0, i < 73600) → (∀ i ∈ c1 ++ c2, i < 73600 ∧ 0 ≤ μ 7869 i ∧ μ 7869 i < 3600) → (∀ i ∈ c1, μ 7778 (μ 7869 i).toNat ≤ μ 7778 f) → (∀ i, c2.head? = some i → μ 7778 f < μ 7778 (μ 7869 i).toNat) →
    (ab_run wt (d + 1) 226 19 [(2, 7756), (0, r), (0, e), (0, f), (0, (lsI c0)), (0, x), (3, 0), (3, 0)] [] μ) = (ab_run wt (d + 1) 226 82 [(2, 7756), (0, r), (0, e), (0, f), (0, (lsI (c0 ++ c1))), (3, 0), (3, 0), (3, 0)] [(0, ((if tIsF μ (c0 ++ c1) f then 1 else 0)))] μ) := sorry
theorem tw_putIn {r e f m : Nat} {c1 c2 : List Nat} (hf : f < 3600) (ef : μ 7869 e = f) (h : tSg μ (μ 7871 r) (c1 ++ c2) (-2)) (hr : r < 73600) (he : e < 73600) (b : ∀ i ∈ c1 ++ c2, i < 73600 ∧ 0 ≤ μ 7869 i ∧ μ 7869 i < 3600) (h1 : ∀ i ∈ c1, μ 7778 (μ 7869 i).toNat ≤ μ 7778 f) (h2 : ∀ i, c2.head? = some i → μ 7778 f < μ 7778 (μ 7869 i).toNat)
    (hm : r / 4600 = m) (v1 : 0 ≤ μ 7865 m) (v2 : μ 7865 m < 1000000) : (ab_run wt (d + 2) 226 0 [(2, 7756), (0, r), (0, e), (3, 0), (3, 0), (3, 0), (3, 0), (3, 0)] [] μ) = some ((3, 0), ab_up (lkM μ r (lsI c1) e) 7865 m (μ 7865 m + tWg (μ 7779 f) (tIsF μ c1 f))) := sorry
end Tc
end
section
section Th
variable {μ μ' : ab_M} {S : SF}
def fX (s t j : Nat) : Nat := 24 * (30 * s + t) + j
def tMx (μ : ab_M) (m pM a b i : Nat) (l : List Int) : Prop := ∃ f : Nat, μ a i = f ∧ μ b i = l.length ∧ (f + l.length ≤ 9000 ∧ (m = 13 ∧ l.length = 0 ∨ f + l.length ≤ pM)) ∧ tBy μ 7879 (9000 * m + f) l
def enF (a : Nat) : Prop := a = 7869 ∨ a = 7873 ∨ a = 7874 ∨ a = 7875 ∨ a = 7876 ∨ a = 7877 ∨ a = 7878
abbrev We := Nat × It
def tEn (S : SF) (μ : ab_M) (m s pM : Nat) (ε : Nat → Nat) (t i : Nat) (x : We) : Prop := x.1 < fCt S t ∧ μ 7869 i = fX s t x.1 ∧ μ 7873 i = x.2.2.2.1 ∧ tMx μ m pM 7874 7875 i x.2.2.2.2.1 ∧ μ 7876 i = x.2.1 ∧ tMx μ m pM 7877 7878 i x.2.2.1 ∧ (fSo (S 12 t x.1) = 2 → ε x.2.2.2.2.2 = i)
def tEs (S : SF) (μ : ab_M) (m s pM : Nat) (ε : Nat → Nat) (t : Nat) : List Nat → List We → Prop
  | [], [] => True
  | i :: c, x :: W => tEn S μ m s pM ε t i x ∧ tEs S μ m s pM ε t c W
  | _, _ => False
def tUs (μ : ab_M) (m pM : Nat) : List Nat → List Un → Prop
  | [], [] => True
  | i :: c, x :: U => (μ 7869 i = -3 ∧ μ 7873 i = x.1 ∧ μ 7876 i = x.2.1 ∧ tMx μ m pM 7874 7875 i x.2.2 ∧ tMx μ m pM 7877 7878 i []) ∧ tUs μ m pM c U
  | _, _ => False
theorem mxL {fi pM m : Nat} {l : List Int} (a : fi + l.length ≤ pM) (b : pM ≤ 9000) : fi + l.length ≤ 9000 ∧ (m = 13 ∧ l.length = 0 ∨ fi + l.length ≤ pM) := sorry
theorem tMx.to {m pM pM' a b i : Nat} {l : List Int} (h : tMx μ m pM a b i l) (h1 : μ' a i = μ a i) (h2 : μ' b i = μ b i) (h3 : ∀ k, 9000 * m ≤ k → k < 9000 * m + pM → μ' 7879 k = μ 7879 k) (hp : pM ≤ pM') : tMx μ' m pM' a b i l := sorry
theorem tEn.to {m s pM pM' t i : Nat} {ε ε' : Nat → Nat} {x : We} (h : tEn S μ m s pM ε t i x) (h1 : ∀ a, enF a → μ' a i = μ a i) (h3 : ∀ k, 9000 * m ≤ k → k < 9000 * m + pM → μ' 7879 k = μ 7879 k) (hp : pM ≤ pM') (he : fSo (S 12 t x.1) = 2 → ε' x.2.2.2.2.2 = ε x.2.2.2.2.2) : tEn S μ' m s pM' ε' t i x := sorry
theorem tEs.to {m s pM pM' t : Nat} {ε ε' : Nat → Nat} : ∀ {c : List Nat} {W : List We}, tEs S μ m s pM ε t c W → (∀ i ∈ c, ∀ a, enF a → μ' a i = μ a i) → (∀ k, 9000 * m ≤ k → k < 9000 * m + pM → μ' 7879 k = μ 7879 k) → pM ≤ pM' → (∀ x ∈ W, fSo (S 12 t x.1) = 2 → ε' x.2.2.2.2.2 = ε x.2.2.2.2.2) → tEs S μ' m s pM' ε' t c W := sorry
theorem tUs.to {m pM pM' : Nat} : ∀ {c : List Nat} {U : List Un}, tUs μ m pM c U → (∀ i ∈ c, ∀ a, enF a → μ' a i = μ a i) → (∀ k, 9000 * m ≤ k → k < 9000 * m + pM → μ' 7879 k = μ 7879 k) → pM ≤ pM' → tUs μ' m pM' c U := sorry
theorem tEs_app {m s pM t : Nat} {ε : Nat → Nat} : ∀ {W1 W2 : List We} {c : List Nat}, tEs S μ m s pM ε t c (W1 ++ W2) → ∃ c1 c2, c = c1 ++ c2 ∧ tEs S μ m s pM ε t c1 W1 ∧ tEs S μ m s pM ε t c2 W2 := sorry
theorem tEs.app {m s pM t : Nat} {ε : Nat → Nat} : ∀ {c1 c2 : List Nat} {W1 W2 : List We}, tEs S μ m s pM ε t c1 W1 → tEs S μ m s pM ε t c2 W2 → tEs S μ m s pM ε t (c1 ++ c2) (W1 ++ W2) := sorry
def wV (W : List We) (j : Nat) : List It := (W.filter fun x => x.1 == j).map (·.2)
def gAl (al : Nat → Bool) : Prop := ∀ y : Nat, ∃ x, y ≤ x ∧ al x = false
theorem gAl.le {al cur : Nat → Bool} (g : gAl al) (h : ∀ x, cur x = true → al x = true) : gAl cur := sorry
theorem gAl.no (g : gAl fun _ => true) : False := sorry
def tRr (S : SF) (μ : ab_M) (m s n : Nat) (al : Nat → Bool) (ty : Nat → Nat) (V : Nat → Nat → List It) (U : Nat → List Un) (ε : Nat → Nat) (W : Nat → List We) (c uc : Nat → List Nat) (own : Nat → Nat) (uM pM r : Nat) : Prop :=
  (tSg μ (μ 7871 (ε r)) (c r) (-2) ∧ tSg μ (μ 7872 (ε r)) (uc r) (-2)) ∧ tEs S μ m s pM ε (ty r) (c r) (W r) ∧ tUs μ m pM (uc r) (U r) ∧ (W r).Pairwise (fun a b => S 10 (ty r) a.1 ≤ S 10 (ty r) b.1) ∧ (4600 * m ≤ ε r ∧ ε r < 4600 * m + uM) ∧ ((ty r : Int) < S 0 0 0 ∧ S 2 (ty r) 0 = 1) ∧
  (r ≠ 0 → 4600 * m < ε r ∧ ∃ t j : Nat, (t : Int) < S 0 0 0 ∧ S 2 t 0 = 1 ∧ j < fCt S t ∧ μ 7869 (ε r) = fX s t j ∧ S 12 t j = 12 ∧ S 13 t j = ty r) ∧ ((∀ i ∈ c r, own i = 2 * r ∧ 4600 * m < i ∧ i < 4600 * m + uM) ∧ (∀ i ∈ uc r, own i = 2 * r + 1 ∧ 4600 * m < i ∧ i < 4600 * m + uM)) ∧ ((c r).Nodup ∧ (uc r).Nodup) ∧ (∀ j, V r j = wV (W r) j) ∧ ∀ x ∈ W r, fSo (S 12 (ty r) x.1) = 2 → x.2.2.2.2.2 < n ∧ al x.2.2.2.2.2 = true ∧ r < x.2.2.2.2.2
def tH (S : SF) (μ : ab_M) (m s n : Nat) (al : Nat → Bool) (ty : Nat → Nat) (V : Nat → Nat → List It) (U : Nat → List Un) (ε : Nat → Nat) (W : Nat → List We) (c uc : Nat → List Nat) (own : Nat → Nat) (uM pM : Nat) : Prop :=
  (m < 16 ∧ s < 4 ∧ μ 7863 m = s ∧ (m = 13 ∧ gAl al ∨ μ 7864 m = ty 0) ∧ (μ 7867 m = uM ∧ 1 ≤ uM ∧ uM ≤ 4600) ∧ μ 7868 m = pM ∧ pM ≤ 9000) ∧ (0 < n ∧ al 0 = true ∧ ε 0 = 4600 * m ∧ μ 7869 (4600 * m) = -2) ∧
  (∀ r, r < n → al r = true → tRr S μ m s n al ty V U ε W c uc own uM pM r) ∧ ∀ r r', r < n → al r = true → r' < n → al r' = true → ε r = ε r' → r = r'
def upL {α : Type} (f : Nat → α) (r : Nat) (l : α) : Nat → α := fun a => if a = r then l else f a
theorem upL_eq {α : Type} {f : Nat → α} {r : Nat} {l : α} : upL f r l r = l := sorry
theorem upL_ne {α : Type} {f : Nat → α} {r a : Nat} {l : α} (h : a ≠ r) : upL f r l a = f a := sorry
theorem gAl.up {al : Nat → Bool} {n : Nat} {b : Bool} (g : gAl al) : gAl (upL al n b) := sorry
theorem tH.chg {m s n : Nat} {al : Nat → Bool} {ty : Nat → Nat} {V : Nat → Nat → List It} {U : Nat → List Un} {ε : Nat → Nat} {W : Nat → List We} {c uc : Nat → List Nat} {own : Nat → Nat} {uM pM uM' pM' r j : Nat} {l : List It} {c' : List Nat} {W' : List We}
    (h : tH S μ m s n al ty V U ε W c uc own uM pM) (hr : r < n) (ha : al r = true) (hc : μ' 7863 m = μ 7863 m ∧ μ' 7864 m = μ 7864 m ∧ μ' 7867 m = uM' ∧ uM ≤ uM' ∧ uM' ≤ 4600 ∧ μ' 7868 m = pM' ∧ pM ≤ pM' ∧ pM' ≤ 9000)
    (f0 : ∀ i, 4600 * m ≤ i → i < 4600 * m + uM → μ' 7869 i = μ 7869 i ∧ μ' 7872 i = μ 7872 i ∧ (i ≠ ε r → μ' 7871 i = μ 7871 i)) (f1 : ∀ i, 4600 * m ≤ i → i < 4600 * m + uM → i ∉ c r → i ∉ c' → (∀ a, enF a → μ' a i = μ a i) ∧ μ' 7870 i = μ 7870 i)
    (f3 : ∀ k, 9000 * m ≤ k → k < 9000 * m + pM → μ' 7879 k = μ 7879 k) (g1 : tSg μ' (μ' 7871 (ε r)) c' (-2)) (g2 : tEs S μ' m s pM' ε (ty r) c' W') (g3 : W'.Pairwise (fun a b => S 10 (ty r) a.1 ≤ S 10 (ty r) b.1)) (g4 : ∀ i ∈ c', i ∈ c r ∨ 4600 * m < i ∧ i < 4600 * m + uM' ∧ ∀ r', r' < n → al r' = true → i ∉ c r' ∧ i ∉ uc r') (g5 : c'.Nodup)
    (g6 : wV W' j = l ∧ ∀ k, k ≠ j → wV W' k = V r k) (g7 : ∀ x ∈ W', fSo (S 12 (ty r) x.1) = 2 → x.2.2.2.2.2 < n ∧ al x.2.2.2.2.2 = true ∧ r < x.2.2.2.2.2) :
    tH S μ' m s n al ty (upV V r j l) U ε (upL W r W') (upL c r c') uc (fun i => if i ∈ c' then 2 * r else own i) uM' pM' := sorry
end Th
end
section
section Th
variable {μ μ' μ'' : ab_M} {d : Nat} {S : SF} {N : NF}
theorem tSc.to {s : Nat} (h : tSc μ s S N) (e : ∀ a, 7762 ≤ a → a ≤ 7861 → μ' a = μ a) : tSc μ' s S N := sorry
def nuOK (S : SF) : Prop := ∀ k j j' : Nat, (k : Int) < S 0 0 0 → S 2 k 0 = 1 → j < fCt S k → j' < fCt S k → S 10 k j = S 10 k j' → j = j'
def TS (μ : ab_M) (s : Nat) (S : SF) (N : NF) : Prop := s < 4 ∧ scOK S N ∧ nuOK S ∧ tSc μ s S N
def mine (m a i : Nat) : Prop := (a = 7756 ∧ (i = 154 ∨ i = 166 ∨ i = 167)) ∨ (7865 ≤ a ∧ a ≤ 7868 ∧ i = m) ∨ (7869 ≤ a ∧ a ≤ 7878 ∧ 4600 * m ≤ i ∧ i < 4600 * m + 4600) ∨ (a = 7879 ∧ 9000 * m ≤ i ∧ i < 9000 * m + 9000) ∨ a = 7880
def frH (m : Nat) (μ μ' : ab_M) : Prop := ∀ a i, ¬ mine m a i → μ' a i = μ a i
theorem frH.refl {m : Nat} : frH m μ μ := sorry
theorem frH.trans {m : Nat} (h : frH m μ μ') (h' : frH m μ' μ'') : frH m μ μ'' := sorry
theorem frH.up {m a i : Nat} {v : Int} (h : frH m μ μ') (q : mine m a i) : frH m μ (ab_up μ' a i v) := sorry
theorem frH.a {m a : Nat} (h : frH m μ μ') (h1 : a ≠ 7756) (h2 : a < 7865 ∨ 7880 < a) : μ' a = μ a := sorry
def frK (m : Nat) (μ μ' : ab_M) : Prop := frH m μ μ' ∧ ∀ k, μ' 7879 k = μ 7879 k
theorem frK.refl {m : Nat} : frK m μ μ := sorry
theorem frK.trans {m : Nat} (h : frK m μ μ') (h' : frK m μ' μ'') : frK m μ μ'' := sorry
theorem TS.fr {s m : Nat} (h : TS μ s S N) (f : frH m μ μ') : TS μ' s S N := sorry
theorem TS.fd {s t j : Nat} (h : TS μ s S N) (h1 : (t : Int) < S 0 0 0) (h2 : S 2 t 0 = 1) (h3 : j < fCt S t) : fX s t j < 3600 ∧ j < 24 ∧ fdOK S N t j ∧ tFd μ (fX s t j) S N t j := sorry
theorem fSo_2 {k : Int} : fSo k = 2 ↔ k = 12 := sorry
theorem fX_inj {s t j j' : Nat} (h : fX s t j = fX s t j') : j = j' := sorry
theorem fX_div {s t j : Nat} (h : j < 24) : fX s t j / 24 = 30 * s + t := sorry
theorem wV_app {A B : List We} {j : Nat} : wV (A ++ B) j = wV A j ++ wV B j := sorry
theorem wV_eq {A : List We} {j : Nat} {t : It} : wV ((j, t) :: A) j = t :: wV A j := sorry
theorem wV_ne {A : List We} {x : We} {j : Nat} (h : x.1 ≠ j) : wV (x :: A) j = wV A j := sorry
theorem wV_nil {A : List We} {j : Nat} (h : ∀ x ∈ A, x.1 ≠ j) : wV A j = [] := sorry
theorem wV_mem {A : List We} {x : We} (h : x ∈ A) : x.2 ∈ wV A x.1 := sorry
theorem wV_of {A : List We} {j : Nat} {t : It} (h : t ∈ wV A j) : (j, t) ∈ A := sorry
theorem W_cut {g : We → Int} (a : Int) : ∀ (W : List We), W.Pairwise (fun x y => g x ≤ g y) → ∃ W1 W2, W = W1 ++ W2 ∧ (∀ x ∈ W1, g x ≤ a) ∧ ∀ x ∈ W2, a < g x := sorry
def neM (μ : ab_M) (m : Nat) (f : Int) (e : Nat) : ab_M := ab_up (ab_up (ab_up (ab_up (ab_up (ab_up (ab_up (ab_up (ab_up (ab_up (ab_up μ 7867 m (μ 7867 m + 1)) 7869 e f) 7870 e (-2)) 7871 e (-2)) 7872 e (-2)) 7873 e 0) 7874 e 0) 7875 e 0) 7876 e 0) 7877 e 0) 7878 e 0
theorem neM_o {m e a i : Nat} {f : Int} (h1 : a < 7869 ∨ 7878 < a ∨ i ≠ e) (h2 : a ≠ 7867 ∨ i ≠ m) : neM μ m f e a i = μ a i := sorry
theorem tw_newEntry {m uM : Nat} {f : Int} (hm : m < 16) (h : μ 7867 m = uM) (hu : uM < 4600) : (ab_run wt (d + 1) 171 0 [(2, 7756), (0, m), (0, f), (3, 0)] [] μ) = some ((0, ((4600 * m + uM : Nat) : Int)), neM μ m f (4600 * m + uM)) := sorry
end Th
end
section
section Th
variable {μ μ' μ'' : ab_M} {d : Nat} {S : SF} {N : NF} {m s n : Nat} {al : Nat → Bool} {ty : Nat → Nat} {V : Nat → Nat → List It} {U : Nat → List Un} {ε : Nat → Nat} {W : Nat → List We} {c uc : Nat → List Nat} {own : Nat → Nat} {uM pM r j : Nat}
theorem tEs_mem {t i : Nat} : ∀ {c : List Nat} {W : List We}, tEs S μ m s pM ε t c W → i ∈ c → ∃ x ∈ W, tEn S μ m s pM ε t i x := sorry
theorem tEs_len {t : Nat} : ∀ {c : List Nat} {W : List We}, tEs S μ m s pM ε t c W → c.length = W.length := sorry
def tSpl (S : SF) (μ : ab_M) (m s pM : Nat) (ε : Nat → Nat) (t j : Nat) (Vj : List It) (c c1 c2 : List Nat) (W W1 W2 : List We) : Prop :=
  c = c1 ++ c2 ∧ W = W1 ++ W2 ∧ tEs S μ m s pM ε t c1 W1 ∧ tEs S μ m s pM ε t c2 W2 ∧ (∀ x ∈ W1, S 10 t x.1 ≤ S 10 t j) ∧ (∀ x ∈ W2, S 10 t j < S 10 t x.1) ∧ wV W1 j = Vj ∧ wV W2 j = [] ∧ (∀ i ∈ c1, μ 7778 (μ 7869 i).toNat ≤ μ 7778 (fX s t j)) ∧ (∀ i, c2.head? = some i → μ 7778 (fX s t j) < μ 7778 (μ 7869 i).toNat) ∧ tIsF μ c1 (fX s t j) = decide (Vj = [])
theorem tH.spl (h : tH S μ m s n al ty V U ε W c uc own uM pM) (ts : TS μ s S N) (hr : r < n) (ha : al r = true) (hj : j < fCt S (ty r)) : ∃ c1 c2 W1 W2, tSpl S μ m s pM ε (ty r) j (V r j) (c r) c1 c2 (W r) W1 W2 := sorry
theorem tH.ins {e uM' pM' : Nat} {t : It} {c1 c2 : List Nat} {W1 W2 : List We} (h : tH S μ m s n al ty V U ε W c uc own uM pM) (hr : r < n) (ha : al r = true)
    (hc : μ' 7863 m = μ 7863 m ∧ μ' 7864 m = μ 7864 m ∧ μ' 7867 m = uM' ∧ uM ≤ uM' ∧ uM' ≤ 4600 ∧ μ' 7868 m = pM' ∧ pM ≤ pM' ∧ pM' ≤ 9000) (hs : c r = c1 ++ c2 ∧ W r = W1 ++ W2 ∧ c1.length = W1.length ∧ (∀ x ∈ W1, S 10 (ty r) x.1 ≤ S 10 (ty r) j) ∧ ∀ x ∈ W2, S 10 (ty r) j ≤ S 10 (ty r) x.1)
    (he : 4600 * m < e ∧ e < 4600 * m + uM' ∧ ∀ r', r' < n → al r' = true → e ∉ c r' ∧ e ∉ uc r') (g1 : tSg μ' (μ' 7871 (ε r)) (c1 ++ e :: c2) (-2)) (g2 : tEn S μ' m s pM' ε (ty r) e (j, t)) (g7 : fSo (S 12 (ty r) j) = 2 → t.2.2.2.2 < n ∧ al t.2.2.2.2 = true ∧ r < t.2.2.2.2)
    (f0 : ∀ i, 4600 * m ≤ i → i < 4600 * m + uM → μ' 7869 i = μ 7869 i ∧ μ' 7872 i = μ 7872 i ∧ (i ≠ ε r → μ' 7871 i = μ 7871 i)) (f1 : ∀ i, 4600 * m ≤ i → i < 4600 * m + uM → i ≠ e → (∀ a, enF a → μ' a i = μ a i) ∧ (i ∉ c1 → μ' 7870 i = μ 7870 i))
    (f3 : ∀ k, 9000 * m ≤ k → k < 9000 * m + pM → μ' 7879 k = μ 7879 k) : ∃ own', tH S μ' m s n al ty (upV V r j (wV W1 j ++ t :: wV W2 j)) U ε (upL W r (W1 ++ (j, t) :: W2)) (upL c r (c1 ++ e :: c2)) uc own' uM' pM' := sorry
end Th
end
section
section Th
variable {μ μ' μ'' : ab_M} {d : Nat} {S : SF} {N : NF} {m s n : Nat} {al : Nat → Bool} {ty : Nat → Nat} {V : Nat → Nat → List It} {U : Nat → List Un} {ε : Nat → Nat} {W : Nat → List We} {c uc : Nat → List Nat} {own : Nat → Nat} {uM pM r j : Nat}
def TM (S : SF) (μ : ab_M) (m s n : Nat) (al : Nat → Bool) (ty : Nat → Nat) (V : Nat → Nat → List It) (U : Nat → List Un) (ε : Nat → Nat) (uM pM : Nat) : Prop := ∃ W c uc own, tH S μ m s n al ty V U ε W c uc own uM pM
abbrev RsvT := Nat → Option (Nat × We)
def rsvT (X : RsvT) (S : SF) (μ : ab_M) (m s n : Nat) (al : Nat → Bool) (ε : Nat → Nat) (c uc : Nat → List Nat) (uM pM : Nat) : Prop := ∀ (i : Nat) (q : Nat × We), X i = some q → (4600 * m < i ∧ i < 4600 * m + uM) ∧ tEn S μ m s pM ε q.1 i q.2 ∧ (fSo (S 12 q.1 q.2.1) = 2 → q.2.2.2.2.2.2 < n ∧ al q.2.2.2.2.2.2 = true) ∧ ∀ r, r < n → al r = true → i ∉ c r ∧ i ∉ uc r
theorem rsvT.to {X : RsvT} {n' : Nat} {al' : Nat → Bool} {ε' : Nat → Nat} {c' uc' : Nat → List Nat} {uM' pM' : Nat} (ro : rsvT X S μ m s n al ε c uc uM pM) (f : ∀ i q, X i = some q → 4600 * m < i → i < 4600 * m + uM → (∀ r, r < n → al r = true → i ∉ c r ∧ i ∉ uc r) → ∀ a, enF a → μ' a i = μ a i) (f3 : ∀ k, 9000 * m ≤ k → k < 9000 * m + pM → μ' 7879 k = μ 7879 k) (hu : uM ≤ uM') (hp : pM ≤ pM') (he : ∀ x, x < n → ε' x = ε x) (hn : n ≤ n')
    (ha : ∀ i q, X i = some q → q.2.2.2.2.2.2 < n → al q.2.2.2.2.2.2 = true → ε q.2.2.2.2.2.2 = i → (∀ r, r < n → al r = true → i ∉ c r ∧ i ∉ uc r) → al' q.2.2.2.2.2.2 = true) (hc : ∀ i q, X i = some q → 4600 * m < i → i < 4600 * m + uM → (∀ r, r < n → al r = true → i ∉ c r ∧ i ∉ uc r) → ∀ r, r < n' → al' r = true → i ∉ c' r ∧ i ∉ uc' r) : rsvT X S μ' m s n' al' ε' c' uc' uM' pM' := sorry
def TMo (X : RsvT) (S : SF) (μ : ab_M) (m s n : Nat) (al : Nat → Bool) (ty : Nat → Nat) (V : Nat → Nat → List It) (U : Nat → List Un) (ε : Nat → Nat) (uM pM : Nat) : Prop := ∃ W c uc own, tH S μ m s n al ty V U ε W c uc own uM pM ∧ rsvT X S μ m s n al ε c uc uM pM
theorem TM.o (h : TM S μ m s n al ty V U ε uM pM) : TMo (fun _ => none) S μ m s n al ty V U ε uM pM := sorry
theorem TMo.tm {X : RsvT} (h : TMo X S μ m s n al ty V U ε uM pM) : TM S μ m s n al ty V U ε uM pM := sorry
theorem tH.rg (h : tH S μ m s n al ty V U ε W c uc own uM pM) (hr : r < n) (ha : al r = true) : m < 16 ∧ 4600 * m ≤ ε r ∧ ε r < 4600 * m + uM ∧ uM ≤ 4600 ∧ ε r < 73600 ∧ ε r / 4600 = m := sorry
theorem tH.ci {i : Nat} (h : tH S μ m s n al ty V U ε W c uc own uM pM) (ts : TS μ s S N) (hr : r < n) (ha : al r = true) (hi : i ∈ c r) : 4600 * m < i ∧ i < 4600 * m + uM ∧ i < 73600 ∧ 0 ≤ μ 7869 i ∧ μ 7869 i < 3600 := sorry
def tPn (S : SF) (μ : ab_M) (m s pM : Nat) (ε : Nat → Nat) (t j r : Nat) (Vj : List It) (c : List Nat) (W : List We) (e : Nat) (μ' : ab_M) : Prop := ∃ c1 c2 W1 W2, tSpl S μ m s pM ε t j Vj c c1 c2 W W1 W2 ∧ tSg μ' (μ' 7871 (ε r)) (c1 ++ e :: c2) (-2) ∧
  (∀ a i, (a < 7869 ∨ 7878 < a ∨ i ≠ e) → (a ≠ 7870 ∨ i ∉ c1) → (a ≠ 7871 ∨ i ≠ ε r) → (a ≠ 7867 ∨ i ≠ m) → (a ≠ 7865 ∨ i ≠ m) → μ' a i = μ a i) ∧ (μ' 7869 e = fX s t j ∧ μ' 7873 e = 0 ∧ μ' 7874 e = 0 ∧ μ' 7875 e = 0 ∧ μ' 7876 e = 0 ∧ μ' 7877 e = 0 ∧ μ' 7878 e = 0 ∧ μ' 7871 e = -2 ∧ μ' 7872 e = -2) ∧
  μ' 7867 m = μ 7867 m + 1 ∧ μ' 7865 m = μ 7865 m + tWg (S 11 t j) (decide (Vj = []))
theorem tw_putNew (h : tH S μ m s n al ty V U ε W c uc own uM pM) (ts : TS μ s S N) (hr : r < n) (ha : al r = true) (hj : j < fCt S (ty r)) (hu : uM < 4600) (v1 : 0 ≤ μ 7865 m) (v2 : μ 7865 m < 1000000) :
    R3 (ab_run wt (d + 2) 226 0 [(2, 7756), (0, (ε r)), (0, (((4600 * m + uM : Nat) : Int))), (3, 0), (3, 0), (3, 0), (3, 0), (3, 0)] [] (neM μ m (fX s (ty r) j) (4600 * m + uM))) (fun μ' => tPn S μ m s pM ε (ty r) j r (V r j) (c r) (W r) (4600 * m + uM) μ') := sorry
end Th
end
section
section Th
variable {μ μ' μ'' : ab_M} {d : Nat} {S : SF} {N : NF} {m s n : Nat} {al : Nat → Bool} {ty : Nat → Nat} {V : Nat → Nat → List It} {U : Nat → List Un} {ε : Nat → Nat} {W : Nat → List We} {c uc : Nat → List Nat} {own : Nat → Nat} {uM pM r j : Nat}
def flM (μ : ab_M) (m e : Nat) (v : Int) (fi n : Nat) : ab_M := ab_up (ab_up (ab_up (ab_up μ 7873 e v) 7874 e fi) 7875 e n) 7866 m (μ 7866 m + n)
theorem flM_o {m e fi n a i : Nat} {v : Int} (h : (a ≠ 7873 ∧ a ≠ 7874 ∧ a ≠ 7875) ∨ i ≠ e) (h2 : a ≠ 7866 ∨ i ≠ m) : flM μ m e v fi n a i = μ a i := sorry
theorem flM_e {m e fi n : Nat} {v : Int} : flM μ m e v fi n 7873 e = v ∧ flM μ m e v fi n 7874 e = fi ∧ flM μ m e v fi n 7875 e = n ∧ flM μ m e v fi n 7866 m = μ 7866 m + n := sorry
theorem tw_fill {m e n : Nat} {v : Int} {fi : Nat} (he : e < 73600) (hm : e / 4600 = m) (b1 : 0 ≤ μ 7866 m) (b2 : μ 7866 m + n < 2147483648) : (ab_run wt (d + 2) 60 0 [(2, 7756), (0, e), (1, v), (3, 0), (0, fi), (0, n)] [] μ) = some ((3, 0), flM μ m e v fi n) := sorry
theorem tH.pn {X : RsvT} {t : It} {μ1 : ab_M} (h : tH S μ m s n al ty V U ε W c uc own uM pM) (ro : rsvT X S μ m s n al ε c uc uM pM) (hr : r < n) (ha : al r = true) (hu : uM < 4600) (hp : tPn S μ m s pM ε (ty r) j r (V r j) (c r) (W r) (4600 * m + uM) μ1)
    (f : ∀ a i, i ≠ 4600 * m + uM ∨ a < 7873 ∨ 7878 < a → (a ≠ 7866 ∨ i ≠ m) → μ' a i = μ1 a i) (hj : j < fCt S (ty r)) (g7 : fSo (S 12 (ty r) j) = 2 → t.2.2.2.2 < n ∧ al t.2.2.2.2 = true ∧ r < t.2.2.2.2)
    (g : μ' 7873 (4600 * m + uM) = t.2.2.1 ∧ tMx μ' m pM 7874 7875 (4600 * m + uM) t.2.2.2.1 ∧ μ' 7876 (4600 * m + uM) = t.1 ∧ tMx μ' m pM 7877 7878 (4600 * m + uM) t.2.1 ∧ (fSo (S 12 (ty r) j) = 2 → ε t.2.2.2.2 = 4600 * m + uM)) :
    TMo X S μ' m s n al ty (upV V r j (V r j ++ [t])) U ε (uM + 1) pM ∧ (∀ a i, ¬ mine m a i → μ' a i = μ a i) := sorry
theorem ow_addItem {X : RsvT} {v : Int} {fi : Nat} {l : List Int} (h : tH S μ m s n al ty V U ε W c uc own uM pM) (ro : rsvT X S μ m s n al ε c uc uM pM) (ts : TS μ s S N) (hr : r < n) (ha : al r = true) (hj : j < fCt S (ty r)) (hu : uM < 4600) (v1 : 0 ≤ μ 7865 m) (v2 : μ 7865 m < 1000000) (b1 : 0 ≤ μ 7866 m) (b2 : μ 7866 m < 1000000000) (h0 : fSo (S 12 (ty r) j) ≠ 2) (hl : fi + l.length ≤ pM) (hb : tBy μ 7879 (9000 * m + fi) l) :
    R0 (ab_run wt (d + 3) 0 0 [(2, 7756), (0, (ε r)), (0, (fX s (ty r) j)), (1, v), (3, 0), (0, fi), (0, (l.length)), (3, 0)] [] μ) (fun _ μ' => TMo X S μ' m s n al ty (upV V r j (V r j ++ [(0, [], v, l, 0)])) U ε (uM + 1) pM ∧ frH m μ μ' ∧ μ' 7865 m = μ 7865 m + tWg (S 11 (ty r) j) (decide (V r j = [])) ∧ μ' 7866 m = μ 7866 m + l.length) := sorry
theorem tw_addItem {v : Int} {fi : Nat} {l : List Int} (h : tH S μ m s n al ty V U ε W c uc own uM pM) (ts : TS μ s S N) (hr : r < n) (ha : al r = true) (hj : j < fCt S (ty r)) (hu : uM < 4600) (v1 : 0 ≤ μ 7865 m) (v2 : μ 7865 m < 1000000) (b1 : 0 ≤ μ 7866 m) (b2 : μ 7866 m < 1000000000) (h0 : fSo (S 12 (ty r) j) ≠ 2) (hl : fi + l.length ≤ pM) (hb : tBy μ 7879 (9000 * m + fi) l) :
    R0 (ab_run wt (d + 3) 0 0 [(2, 7756), (0, (ε r)), (0, (fX s (ty r) j)), (1, v), (3, 0), (0, fi), (0, (l.length)), (3, 0)] [] μ) (fun _ μ' => TM S μ' m s n al ty (upV V r j (V r j ++ [(0, [], v, l, 0)])) U ε (uM + 1) pM ∧ frH m μ μ' ∧ μ' 7865 m = μ 7865 m + tWg (S 11 (ty r) j) (decide (V r j = [])) ∧ μ' 7866 m = μ 7866 m + l.length) := sorry
end Th
end
section
section Su
variable {S : SF} {n : Nat} {al : Nat → Bool} {ty : Nat → Nat} {V : Nat → Nat → List It} {U : Nat → List Un}
def sumN (f : Nat → Int) : Nat → Int
  | 0 => 0
  | n + 1 => sumN f n + f n
theorem sumN_to {f g : Nat → Int} : ∀ {n : Nat}, (∀ i, i < n → f i = g i) → sumN f n = sumN g n := sorry
theorem sumN_up {f g : Nat → Int} {k : Nat} : ∀ {n : Nat}, k < n → (∀ i, i < n → i ≠ k → g i = f i) → sumN g n = sumN f n + (g k - f k) := sorry
theorem sumN_0 {f : Nat → Int} : ∀ {n : Nat}, (∀ i, i < n → 0 ≤ f i) → 0 ≤ sumN f n := sorry
theorem sumN_le {f g : Nat → Int} : ∀ {n : Nat}, (∀ i, i < n → f i ≤ g i) → sumN f n ≤ sumN g n := sorry
def wgV (mode : Int) (l : List It) : Int := l.length * (if mode = 3 then 2 else 1) + (if 1 < mode ∧ l ≠ [] then 1 else 0)
def byV : List It → Int
  | [] => 0
  | t :: l => t.2.2.2.1.length + t.2.1.length + byV l
def byU : List Un → Int
  | [] => 0
  | t :: l => t.2.2.length + byU l
theorem byV_app : ∀ (a b : List It), byV (a ++ b) = byV a + byV b := sorry
theorem byU_app : ∀ (a b : List Un), byU (a ++ b) = byU a + byU b := sorry
theorem byV_0 : ∀ (a : List It), 0 ≤ byV a := sorry
theorem byU_0 : ∀ (a : List Un), 0 ≤ byU a := sorry
theorem wgV_nil {mode : Int} : wgV mode [] = 0 := sorry
theorem wgV_ins {mode : Int} {A B : List It} {t : It} : wgV mode (A ++ t :: B) = wgV mode (A ++ B) + tWg mode (decide (A ++ B = [])) := sorry
theorem wgV_0 {mode : Int} {l : List It} : 0 ≤ wgV mode l ∧ wgV mode l ≤ 3 * l.length := sorry
def loV (S : SF) (t : Nat) (v : Nat → List It) (u : List Un) : Int := sumN (fun j => wgV (S 11 t j) (v j)) (fCt S t) + u.length
def loB (S : SF) (t : Nat) (v : Nat → List It) (u : List Un) : Int := sumN (fun j => byV (v j)) (fCt S t) + byU u
def toV (S : SF) (n : Nat) (al : Nat → Bool) (ty : Nat → Nat) (V : Nat → Nat → List It) (U : Nat → List Un) : Int := sumN (fun r => if al r = true then loV S (ty r) (V r) (U r) else 0) n
def toB (S : SF) (n : Nat) (al : Nat → Bool) (ty : Nat → Nat) (V : Nat → Nat → List It) (U : Nat → List Un) : Int := sumN (fun r => if al r = true then loB S (ty r) (V r) (U r) else 0) n
def gh (S : SF) (m : Nat) : Int := if m = 12 ∧ 0 ≤ S 99 0 0 ∧ S 99 0 0 ≤ 100000 then S 99 0 0 else 0
theorem gh_rg {S : SF} {m : Nat} : 0 ≤ gh S m ∧ gh S m ≤ 100000 := sorry
theorem gh_ne {S : SF} {m : Nat} (h : m ≠ 12) : gh S m = 0 := sorry
theorem gh_0 {S : SF} {m : Nat} (h : S 99 0 0 = 0) : gh S m = 0 := sorry
def TC (S : SF) (μ : ab_M) (m n : Nat) (al : Nat → Bool) (ty : Nat → Nat) (V : Nat → Nat → List It) (U : Nat → List Un) : Prop := μ 7865 m = toV S n al ty V U + gh S m ∧ μ 7866 m = toB S n al ty V U
theorem loV_up {t j : Nat} {v v' : Nat → List It} {u : List Un} (hj : j < fCt S t) (h : ∀ k, k ≠ j → v' k = v k) : loV S t v' u = loV S t v u + (wgV (S 11 t j) (v' j) - wgV (S 11 t j) (v j)) := sorry
theorem loB_up {t j : Nat} {v v' : Nat → List It} {u : List Un} (hj : j < fCt S t) (h : ∀ k, k ≠ j → v' k = v k) : loB S t v' u = loB S t v u + (byV (v' j) - byV (v j)) := sorry
theorem upV_ne {r j a k : Nat} {l : List It} (h : a ≠ r ∨ k ≠ j) : upV V r j l a k = V a k := sorry
theorem upV_eq {r j : Nat} {l : List It} : upV V r j l r j = l := sorry
theorem to_up {r j : Nat} {l : List It} (hr : r < n) (ha : al r = true) (hj : j < fCt S (ty r)) : toV S n al ty (upV V r j l) U = toV S n al ty V U + (wgV (S 11 (ty r) j) l - wgV (S 11 (ty r) j) (V r j)) ∧ toB S n al ty (upV V r j l) U = toB S n al ty V U + (byV l - byV (V r j)) := sorry
theorem to_fresh {t : Nat} : toV S (n + 1) (upL al n true) (upT ty n t) (nwV V n) (nwU U n) = toV S n al ty V U ∧ toB S (n + 1) (upL al n true) (upT ty n t) (nwV V n) (nwU U n) = toB S n al ty V U := sorry
end Su
end
section
section Su
variable {μ : ab_M} {S : SF} {m s n : Nat} {al : Nat → Bool} {ty : Nat → Nat} {V : Nat → Nat → List It} {U : Nat → List Un} {ε : Nat → Nat} {W : Nat → List We} {c uc : Nat → List Nat} {own : Nat → Nat} {uM pM : Nat}
theorem nd_len : ∀ (k a : Nat) (l : List Nat), l.Nodup → (∀ i ∈ l, a ≤ i ∧ i < a + k) → l.length ≤ k := sorry
theorem sum_if {f g : Nat → Int} {k x : Nat} {e : Int} (h0 : 0 ≤ e) (h : ∀ i, i ≠ x → g i = f i) (hx : g x = f x + e) : sumN g k ≤ sumN f k + e := sorry
theorem wV_c {x : We} {A : List We} {j : Nat} : wV (x :: A) j = if x.1 = j then x.2 :: wV A j else wV A j := sorry
theorem W_len {k : Nat} : ∀ (A : List We), sumN (fun j => ((wV A j).length : Int)) k ≤ A.length := sorry
theorem W_byt {k : Nat} : ∀ (A : List We), (∀ x ∈ A, x.2.2.2.2.1.length + x.2.2.1.length ≤ 18000) → sumN (fun j => byV (wV A j)) k ≤ 18000 * A.length := sorry
def allE (al : Nat → Bool) (c uc : Nat → List Nat) : Nat → List Nat
  | 0 => []
  | n + 1 => allE al c uc n ++ (if al n = true then c n ++ uc n else [])
theorem tUs_len : ∀ {c : List Nat} {U : List Un}, tUs μ m pM c U → c.length = U.length := sorry
theorem tMx.le {a b i : Nat} {l : List Int} (h : tMx μ m pM a b i l) : l.length ≤ pM := sorry
theorem tEs_byt {t : Nat} (hp : pM ≤ 9000) : ∀ {c : List Nat} {W : List We}, tEs S μ m s pM ε t c W → ∀ x ∈ W, x.2.2.2.2.1.length + x.2.2.1.length ≤ 18000 := sorry
theorem tUs_byt (hp : pM ≤ 9000) : ∀ {c : List Nat} {U : List Un}, tUs μ m pM c U → byU U ≤ 18000 * U.length := sorry
theorem tH.all (h : tH S μ m s n al ty V U ε W c uc own uM pM) : ∀ k, k ≤ n → (allE al c uc k).Nodup ∧ (∀ i ∈ allE al c uc k, own i < 2 * k ∧ 4600 * m + 1 ≤ i ∧ i < 4600 * m + 1 + (uM - 1)) ∧ sumN (fun r => if al r = true then loV S (ty r) (V r) (U r) else 0) k ≤ 3 * (allE al c uc k).length ∧ sumN (fun r => if al r = true then loB S (ty r) (V r) (U r) else 0) k ≤ 18000 * (allE al c uc k).length := sorry
theorem TC.rg (t : TC S μ m n al ty V U) (h : tH S μ m s n al ty V U ε W c uc own uM pM) : (0 ≤ μ 7865 m ∧ μ 7865 m < 1000000) ∧ 0 ≤ μ 7866 m ∧ μ 7866 m < 1000000000 := sorry
end Su
end
section
section Th
variable {μ μ' μ'' : ab_M} {d : Nat} {S : SF} {N : NF} {m s n : Nat} {ε : Nat → Nat} {pM : Nat}
def ucM (μ : ab_M) (m i : Nat) (w : Int) (rec : Bool) : ab_M := if rec = true then ab_up (ab_up (ab_up (ab_up μ 7866 m (μ 7866 m - (μ 7875 i + μ 7878 i))) 7865 m (μ 7865 m - w)) 7880 (μ 7756 154).toNat i) 7756 154 (μ 7756 154 + 1) else ab_up (ab_up μ 7866 m (μ 7866 m - (μ 7875 i + μ 7878 i))) 7865 m (μ 7865 m - w)
theorem tw_unc1 {i e f : Nat} {bf : Int} (hm : m < 16) (hi : i < 73600) (hf : f < 3600) (ef : μ 7869 i = f) (k1 : 0 ≤ μ 7875 i ∧ μ 7875 i ≤ 9000) (k2 : 0 ≤ μ 7878 i ∧ μ 7878 i ≤ 9000) (b1 : -1000000000 ≤ μ 7866 m) (b2 : μ 7866 m ≤ 1000000000) (v1 : -1000000000 ≤ μ 7865 m) (v2 : μ 7865 m ≤ 1000000000) (w : μ 7780 f = 12 → 0 ≤ μ 7756 154 ∧ μ 7756 154 < 4600) :
    (ab_run wt (d + 1) 313 92 [(2, 7756), (3, 0), (0, m), (0, e), (0, bf), (0, i), (3, 0)] [] μ) = (ab_run wt (d + 1) 313 92 [(2, 7756), (3, 0), (0, m), (0, e), (0, f), (0, (μ 7870 i)), (3, 0)] [] (ucM μ m i (tWg (μ 7779 f) (decide (bf ≠ f))) (decide (μ 7780 f = 12)))) := sorry
theorem ucM_o {i a k : Nat} {w : Int} {rec : Bool} (h1 : a ≠ 7866 ∨ k ≠ m) (h2 : a ≠ 7865 ∨ k ≠ m) (h3 : a ≠ 7880) (h4 : a ≠ 7756 ∨ k ≠ 154) : ucM μ m i w rec a k = μ a k := sorry
theorem ucM_v {i : Nat} {w : Int} {rec : Bool} : ucM μ m i w rec 7865 m = μ 7865 m - w ∧ ucM μ m i w rec 7866 m = μ 7866 m - (μ 7875 i + μ 7878 i) ∧ ucM μ m i w rec 7756 154 = μ 7756 154 + (if rec = true then 1 else 0) ∧ ∀ k, ucM μ m i w rec 7880 k = if rec = true ∧ k = (μ 7756 154).toNat then (i : Int) else μ 7880 k := sorry
def tWy (μ : ab_M) (wl : List Nat) : Prop := μ 7756 154 = wl.length ∧ ∀ (k i : Nat), wl[k]? = some i → μ 7880 k = i
theorem ucM_w {i : Nat} {w : Int} {wl : List Nat} {rec : Bool} (h : tWy μ wl) : tWy (ucM μ m i w rec) (if rec = true then wl ++ [i] else wl) := sorry
def recE (S : SF) (t : Nat) : List Nat → List We → List Nat
  | i :: c, x :: W => if fSo (S 12 t x.1) = 2 then i :: recE S t c W else recE S t c W
  | _, _ => []
def bfI (s t : Nat) (W : List We) : Int := match W.getLast? with
  | some x => (fX s t x.1 : Int)
  | none => -2
theorem bfI_app {t : Nat} {W : List We} {x : We} : bfI s t (W ++ [x]) = (fX s t x.1 : Int) := sorry
theorem W_fst {t : Nat} {W1 : List We} {x : We} (nu : nuOK S) (h1 : (t : Int) < S 0 0 0) (h2 : S 2 t 0 = 1) (hf : ∀ y ∈ W1 ++ [x], y.1 < fCt S t) (h : (W1 ++ [x]).Pairwise (fun a b => S 10 t a.1 ≤ S 10 t b.1)) : (bfI s t W1 ≠ (fX s t x.1 : Int)) ↔ wV W1 x.1 = [] := sorry
def loW (S : SF) (t : Nat) (W : List We) : Int := sumN (fun j => wgV (S 11 t j) (wV W j)) (fCt S t)
def byW (S : SF) (t : Nat) (W : List We) : Int := sumN (fun j => byV (wV W j)) (fCt S t)
theorem loW_app {t : Nat} {W : List We} {x : We} (hx : x.1 < fCt S t) : loW S t (W ++ [x]) = loW S t W + tWg (S 11 t x.1) (decide (wV W x.1 = [])) ∧ byW S t (W ++ [x]) = byW S t W + (x.2.2.2.2.1.length + x.2.2.1.length) := sorry
end Th
end
section
section Th
variable {μ μ' μ'' : ab_M} {d : Nat} {S : SF} {N : NF} {m s n : Nat} {ε : Nat → Nat} {pM : Nat}
def ucF (m : Nat) (μ μ' : ab_M) : Prop := ∀ a k, (a ≠ 7866 ∨ k ≠ m) → (a ≠ 7865 ∨ k ≠ m) → a ≠ 7880 → (a ≠ 7756 ∨ k ≠ 154) → μ' a k = μ a k
theorem ucF.trans (h : ucF m μ μ') (h' : ucF m μ' μ'') : ucF m μ μ'' := sorry
theorem ucF.frH (h : ucF m μ μ') : frH m μ μ' := sorry
theorem ucF.a {a : Nat} (h : ucF m μ μ') (h1 : 7867 ≤ a) (h2 : a < 7880) (k : Nat) : μ' a k = μ a k := sorry
theorem tw_unc92 {t e : Nat} (hm : m < 16) (he : e < 73600) (t1 : (t : Int) < S 0 0 0) (t2 : S 2 t 0 = 1) (hp : pM ≤ 9000) : ∀ (c2 : List Nat) (W2 W1 : List We) (wl : List Nat) (x : Int) (μ : ab_M), TS μ s S N → tSg μ x c2 (-2) → tEs S μ m s pM ε t c2 W2 → (∀ i ∈ c2, i < 73600) → (∀ y ∈ W1 ++ W2, y.1 < fCt S t) → (W1 ++ W2).Pairwise (fun a b => S 10 t a.1 ≤ S 10 t b.1) → tWy μ wl → wl.length + (recE S t c2 W2).length ≤ 4600 →
    μ 7866 m ≤ 1000000000 ∧ -1000000000 + 18000 * c2.length ≤ μ 7866 m → μ 7865 m ≤ 1000000000 ∧ -1000000000 + 3 * c2.length ≤ μ 7865 m →
    ∃ μ', (ab_run wt (d + 1) 313 92 [(2, 7756), (3, 0), (0, m), (0, e), (0, (bfI s t W1)), (0, x), (3, 0)] [] μ) = (ab_run wt (d + 1) 313 238 [(2, 7756), (3, 0), (0, m), (3, 0), (3, 0), (0, (μ 7872 e)), (3, 0)] [] μ') ∧ tWy μ' (wl ++ recE S t c2 W2) ∧ μ' 7865 m = μ 7865 m - (loW S t (W1 ++ W2) - loW S t W1) ∧ μ' 7866 m = μ 7866 m - (byW S t (W1 ++ W2) - byW S t W1) ∧ ucF m μ μ' := sorry
theorem tw_unc238 (hm : m < 16) (hp : pM ≤ 9000) : ∀ (uc : List Nat) (U : List Un) (x : Int) (μ : ab_M), tSg μ x uc (-2) → tUs μ m pM uc U → (∀ i ∈ uc, i < 73600) → μ 7866 m ≤ 1000000000 ∧ -1000000000 + 18000 * uc.length ≤ μ 7866 m → μ 7865 m ≤ 1000000000 ∧ -1000000000 + 3 * uc.length ≤ μ 7865 m →
    ∃ μ', (ab_run wt (d + 1) 313 238 [(2, 7756), (3, 0), (0, m), (3, 0), (3, 0), (0, x), (3, 0)] [] μ) = (ab_run wt (d + 1) 313 53 [(2, 7756), (3, 0), (0, m), (3, 0), (3, 0), (3, 0), (3, 0)] [] μ') ∧ μ' 7865 m = μ 7865 m - U.length ∧ μ' 7866 m = μ 7866 m - byU U ∧ ∀ a k, (a ≠ 7866 ∨ k ≠ m) → (a ≠ 7865 ∨ k ≠ m) → μ' a k = μ a k := sorry
end Th
end
section
section Th
variable {μ μ' μ'' : ab_M} {d : Nat} {S : SF} {N : NF} {m s n : Nat} {al : Nat → Bool} {ty : Nat → Nat} {V : Nat → Nat → List It} {U : Nat → List Un} {ε : Nat → Nat} {W : Nat → List We} {c uc : Nat → List Nat} {own : Nat → Nat} {uM pM r j : Nat}
def chR (S : SF) (t : Nat) : List We → List Nat
  | [] => []
  | x :: W => if fSo (S 12 t x.1) = 2 then x.2.2.2.2.2 :: chR S t W else chR S t W
theorem chR_mem {t y : Nat} : ∀ {W : List We}, y ∈ chR S t W ↔ ∃ x ∈ W, fSo (S 12 t x.1) = 2 ∧ x.2.2.2.2.2 = y := sorry
theorem tEs_mem' {t : Nat} {x : We} : ∀ {c : List Nat} {W : List We}, tEs S μ m s pM ε t c W → x ∈ W → ∃ i, i ∈ c ∧ tEn S μ m s pM ε t i x := sorry
theorem recE_eq {t : Nat} : ∀ {c : List Nat} {W : List We}, tEs S μ m s pM ε t c W → recE S t c W = (chR S t W).map ε := sorry
theorem recE_nd {t : Nat} : ∀ {c : List Nat} {W : List We}, tEs S μ m s pM ε t c W → c.Nodup → (recE S t c W).Nodup ∧ ∀ i ∈ recE S t c W, i ∈ c := sorry
def KL (n : Nat) (al cur : Nat → Bool) (C : Nat → List Nat) (c0 : Nat) (rl : List Nat) : Prop := (∀ r, cur r = true → al r = true) ∧ (∀ r, r < n → al r = true → cur r = false → c0 ≤ r ∧ (r = c0 ∨ ∃ p, p < n ∧ al p = true ∧ cur p = false ∧ r ∈ C p)) ∧ (∀ r x, r < n → al r = true → cur r = false → x ∈ C r → cur x = false ∨ x ∈ rl) ∧
  (∀ r ∈ rl, r < n ∧ cur r = true ∧ c0 ≤ r ∧ (r = c0 ∨ ∃ p, p < n ∧ al p = true ∧ cur p = false ∧ r ∈ C p)) ∧ rl.Nodup ∧ (cur c0 = false ∨ c0 ∈ rl)
theorem tH.chu {p q y : Nat} (h : tH S μ m s n al ty V U ε W c uc own uM pM) (hp : p < n) (ap : al p = true) (hq : q < n) (aq : al q = true) (y1 : y ∈ chR S (ty p) (W p)) (y2 : y ∈ chR S (ty q) (W q)) : p = q := sorry
theorem tH.chn (h : tH S μ m s n al ty V U ε W c uc own uM pM) (hr : r < n) (ha : al r = true) : (chR S (ty r) (W r)).Nodup ∧ ∀ y ∈ chR S (ty r) (W r), y < n ∧ al y = true ∧ r < y := sorry
theorem KL.step {cur : Nat → Bool} {c0 : Nat} {rl : List Nat} (h : tH S μ m s n al ty V U ε W c uc own uM pM) (k : KL n al cur (fun r => chR S (ty r) (W r)) c0 (rl ++ [r])) : KL n al (upL cur r false) (fun r => chR S (ty r) (W r)) c0 (rl ++ chR S (ty r) (W r)) := sorry
end Th
end
section
section Th
variable {μ μ' μ'' : ab_M} {d : Nat} {S : SF} {N : NF} {m s n : Nat} {al : Nat → Bool} {ty : Nat → Nat} {V : Nat → Nat → List It} {U : Nat → List Un} {ε : Nat → Nat} {W : Nat → List We} {c uc : Nat → List Nat} {own : Nat → Nat} {uM pM r j : Nat}
theorem tH.to {uM' pM' : Nat} (h : tH S μ m s n al ty V U ε W c uc own uM pM) (hc : μ' 7863 m = μ 7863 m ∧ μ' 7864 m = μ 7864 m ∧ μ' 7867 m = uM' ∧ uM ≤ uM' ∧ uM' ≤ 4600 ∧ μ' 7868 m = pM' ∧ pM ≤ pM' ∧ pM' ≤ 9000)
    (f : ∀ a, 7869 ≤ a → a ≤ 7878 → ∀ i, 4600 * m ≤ i → i < 4600 * m + uM → μ' a i = μ a i) (f3 : ∀ k, 9000 * m ≤ k → k < 9000 * m + pM → μ' 7879 k = μ 7879 k) : tH S μ' m s n al ty V U ε W c uc own uM' pM' := sorry
theorem tH.cu (h : tH S μ m s n al ty V U ε W c uc own uM pM) (f : ucF m μ μ') : tH S μ' m s n al ty V U ε W c uc own uM pM := sorry
theorem to_off {cur : Nat → Bool} (hr : r < n) (hc : cur r = true) : toV S n (upL cur r false) ty V U = toV S n cur ty V U - loV S (ty r) (V r) (U r) ∧ toB S n (upL cur r false) ty V U = toB S n cur ty V U - loB S (ty r) (V r) (U r) := sorry
def cntA (al : Nat → Bool) (n : Nat) : Nat := (sumN (fun r => if al r = true then 1 else 0) n).toNat
theorem cntA_off {cur : Nat → Bool} (hr : r < n) (hc : cur r = true) : cntA (upL cur r false) n + 1 = cntA cur n := sorry
def ucB (S : SF) (μ : ab_M) (m n : Nat) (cur : Nat → Bool) (ty : Nat → Nat) (V : Nat → Nat → List It) (U : Nat → List Un) (av bv : Int) : Prop := μ 7865 m = toV S n cur ty V U + av ∧ μ 7866 m = toB S n cur ty V U + bv
theorem to_mono {cur : Nat → Bool} (h : tH S μ m s n al ty V U ε W c uc own uM pM) (k : ∀ r, cur r = true → al r = true) : 0 ≤ toV S n cur ty V U ∧ toV S n cur ty V U ≤ 1000000 ∧ 0 ≤ toB S n cur ty V U ∧ toB S n cur ty V U ≤ 100000000 := sorry
theorem tw_unc53 {c0 : Nat} {av bv : Int} (ha1 : -100000 ≤ av ∧ av ≤ 100000) (hb1 : -100000 ≤ bv ∧ bv ≤ 100000) : ∀ (k : Nat) (cur : Nat → Bool) (rl : List Nat) (μ : ab_M), cntA cur n ≤ k → tH S μ m s n al ty V U ε W c uc own uM pM → TS μ s S N → KL n al cur (fun r => chR S (ty r) (W r)) c0 rl → tWy μ (rl.map ε) → ucB S μ m n cur ty V U av bv →
    R3 (ab_run wt (d + 1) 313 53 [(2, 7756), (3, 0), (0, m), (3, 0), (3, 0), (3, 0), (3, 0)] [] μ) (fun μ' => ∃ cur', KL n al cur' (fun r => chR S (ty r) (W r)) c0 [] ∧ ucB S μ' m n cur' ty V U av bv ∧ ucF m μ μ') := sorry
end Th
end
section
section Th
variable {μ μ' μ'' : ab_M} {d : Nat} {S : SF} {N : NF} {m s n : Nat} {al : Nat → Bool} {ty : Nat → Nat} {V : Nat → Nat → List It} {U : Nat → List Un} {ε : Nat → Nat} {W : Nat → List We} {c uc : Nat → List Nat} {own : Nat → Nat} {uM pM r j : Nat}
theorem tw_isRecordEntry {e f : Nat} (he : e < 73600) (hf : f < 3600) (ef : μ 7869 e = f) : (ab_run wt (d + 1) 96 0 [(2, 7756), (0, e)] [] μ) = some ((0, if μ 7780 f = 12 then 1 else 0), μ) := sorry
theorem tw_uncount {e t c0 : Nat} {lt lk : Nat} (h : tH S μ m s n al ty V U ε W c uc own uM pM) (ts : TS μ s S N) (tc : TC S μ m n al ty V U) (he : 4600 * m ≤ e ∧ e < 4600 * m + uM) (t1 : (t : Int) < S 0 0 0) (t2 : S 2 t 0 = 1) (hj : j < fCt S t) (ef : μ 7869 e = fX s t j) (l1 : μ 7875 e = lt) (l2 : μ 7878 e = lk) (l3 : lt ≤ 9000 ∧ lk ≤ 9000) (hc : fSo (S 12 t j) = 2 → c0 < n ∧ al c0 = true ∧ ε c0 = e) :
    R3 (ab_run wt (d + 2) 313 0 [(2, 7756), (0, e), (3, 0), (3, 0), (3, 0), (3, 0), (3, 0)] [] μ) (fun μ' => ∃ cur, (fSo (S 12 t j) = 2 → KL n al cur (fun r => chR S (ty r) (W r)) c0 []) ∧ (fSo (S 12 t j) ≠ 2 → cur = al) ∧ ucB S μ' m n cur ty V U (gh S m) (-((lt + lk : Nat) : Int)) ∧ ucF m μ μ') := sorry
def utM (μ : ab_M) (r : Nat) (last : Int) (e : Nat) : ab_M := if last < 0 then ab_up μ 7871 r (μ 7870 e) else ab_up μ 7870 last.toNat (μ 7870 e)
theorem utM_o {a i e : Nat} {last : Int} (h1 : a ≠ 7870 ∨ last < 0 ∨ i ≠ last.toNat) (h2 : a ≠ 7871 ∨ i ≠ r) : utM μ r last e a i = μ a i := sorry
theorem tSg.unlink {e : Nat} {c1 c2 : List Nat} {y : Int} (h : tSg μ (μ 7871 r) (c1 ++ e :: c2) y) (n : (c1 ++ e :: c2).Nodup) : tSg (utM μ r (lsI c1) e) (utM μ r (lsI c1) e 7871 r) (c1 ++ c2) y := sorry
theorem tw_take117 {e l : Nat} {c2 : List Nat} {y : Int} (he : e < 73600) : ∀ (c0 : List Nat) (x : Int), tSg μ x (c0 ++ l :: e :: c2) y → (c0 ++ l :: e :: c2).Nodup → (∀ i ∈ c0 ++ [l], i < 73600) → (ab_run wt (d + 1) 301 117 [(2, 7756), (3, 0), (0, e), (3, 0), (3, 0), (3, 0), (0, x)] [] μ) = some ((3, 0), ab_up μ 7870 l (μ 7870 e)) := sorry
theorem tLead_eq {t : Nat} (nu : nuOK S) (h1 : (t : Int) < S 0 0 0) (h2 : S 2 t 0 = 1) (hj : j < fCt S t) : ∀ {c : List Nat} {W : List We}, tEs S μ m s pM ε t c W → W.Pairwise (fun a b => S 10 t a.1 ≤ S 10 t b.1) → (∀ x ∈ W, S 10 t j ≤ S 10 t x.1) → tLead μ (fX s t j) c = (wV W j).length := sorry
theorem tIts_eq {t : Nat} (nu : nuOK S) (h1 : (t : Int) < S 0 0 0) (h2 : S 2 t 0 = 1) (hj : j < fCt S t) : ∀ {c : List Nat} {W : List We}, tEs S μ m s pM ε t c W → W.Pairwise (fun a b => S 10 t a.1 ≤ S 10 t b.1) → tIts μ (fX s t j) c = (wV W j).length := sorry
end Th
end
section
section Th
variable {μ μ' μ'' : ab_M} {d : Nat} {S : SF} {N : NF} {m s n : Nat} {al : Nat → Bool} {ty : Nat → Nat} {V V' : Nat → Nat → List It} {U : Nat → List Un} {ε : Nat → Nat} {W : Nat → List We} {c uc : Nat → List Nat} {own : Nat → Nat} {uM pM r j : Nat}
def noOr (S : SF) (n : Nat) (al : Nat → Bool) (ty : Nat → Nat) (V : Nat → Nat → List It) (F : Nat → Prop) : Prop := ∀ x, x < n → al x = true → x = 0 ∨ F x ∨ ∃ p j, p < n ∧ al p = true ∧ j < fCt S (ty p) ∧ fSo (S 12 (ty p) j) = 2 ∧ ∃ t ∈ V p j, t.2.2.2.2 = x
def AL (S : SF) (n : Nat) (al cur : Nat → Bool) (ty : Nat → Nat) (V V' : Nat → Nat → List It) (r : Nat) : Prop := (∀ x, cur x = true → al x = true) ∧ (∀ x, x < n → x ≤ r → al x = true → cur x = true) ∧ ∀ F, noOr S n al ty V F → noOr S n cur ty V' F
theorem AL.refl : AL S n al al ty V V r := sorry
theorem AL.trans {cur cur' : Nat → Bool} {V'' : Nat → Nat → List It} (h : AL S n al cur ty V V' r) (h' : AL S n cur cur' ty V' V'' r) : AL S n al cur' ty V V'' r := sorry
theorem tH.less {cur : Nat → Bool} (h : tH S μ m s n al ty V U ε W c uc own uM pM) (k : ∀ x, cur x = true → al x = true) (k0 : cur 0 = true) (k1 : ∀ r, r < n → cur r = true → ∀ x ∈ W r, fSo (S 12 (ty r) x.1) = 2 → cur x.2.2.2.2.2 = true) : tH S μ m s n cur ty V U ε W c uc own uM pM := sorry
theorem tw_take83 {e : Nat} {c1 c2 : List Nat} {s0 s1 : Int} {w : Int} (hm : m < 16) (hr : r < 73600) (he : e < 73600) (h : tSg μ (μ 7871 r) (c1 ++ e :: c2) (-2)) (nd : (c1 ++ e :: c2).Nodup) (b : ∀ i ∈ c1, i < 73600) (hw : w32 (μ 7865 m - w32 (s1 + s0)) = μ 7865 m - w) :
    (ab_run wt (d + 1) 301 83 [(2, 7756), (0, r), (0, e), (3, 0), (3, 0), (3, 0), (3, 0)] [(0, s0), (0, s1), (0, (μ 7865 m)), (0, m), (2, 7865)] μ) = some ((3, 0), utM (ab_up μ 7865 m (μ 7865 m - w)) r (lsI c1) e) := sorry
theorem tw_takeOut {X : RsvT} {e : Nat} {c1 c2 : List Nat} {W1 W2 : List We} {t : It} (h : tH S μ m s n al ty V U ε W c uc own uM pM) (ro : rsvT X S μ m s n al ε c uc uM pM) (ts : TS μ s S N) (tc : TC S μ m n al ty V U) (hr : r < n) (ha : al r = true) (hc : c r = c1 ++ e :: c2) (hw : W r = W1 ++ (j, t) :: W2) (hl : c1.length = W1.length) :
    R3 (ab_run wt (d + 3) 301 0 [(2, 7756), (0, (ε r)), (0, e), (3, 0), (3, 0), (3, 0), (3, 0)] [] μ) (fun μ' => ∃ cur, TMo X S μ' m s n cur ty (upV V r j (wV W1 j ++ wV W2 j)) U ε uM pM ∧ TC S μ' m n cur ty (upV V r j (wV W1 j ++ wV W2 j)) U ∧ frK m μ μ' ∧ AL S n al cur ty V (upV V r j (wV W1 j ++ wV W2 j)) r) := sorry
end Th
end
section
section Th
variable {μ μ' μ'' : ab_M} {d : Nat} {S : SF} {N : NF} {m s n : Nat} {al : Nat → Bool} {ty : Nat → Nat} {V V' : Nat → Nat → List It} {U : Nat → List Un} {ε : Nat → Nat} {W : Nat → List We} {c uc : Nat → List Nat} {own : Nat → Nat} {uM pM r j : Nat}
theorem tFst_no {t : Nat} : ∀ {c : List Nat} {W : List We}, tEs S μ m s pM ε t c W → wV W j = [] → tFst μ (fX s t j) c = -2 := sorry
theorem tFst_is {t : Nat} {x0 : It} {l : List It} : ∀ {c : List Nat} {W : List We}, tEs S μ m s pM ε t c W → wV W j = x0 :: l → ∃ c1 e c2 W1 W2, c = c1 ++ e :: c2 ∧ W = W1 ++ (j, x0) :: W2 ∧ c1.length = W1.length ∧ wV W1 j = [] ∧ wV W2 j = l ∧ tFst μ (fX s t j) c = (e : Nat) := sorry
theorem upV_up {l l' : List It} : upV (upV V r j l) r j l' = upV V r j l' := sorry
theorem upV_id : upV V r j (V r j) = V := sorry
theorem tw_removeL {X : RsvT} (hr : r < n) (hj : j < fCt S (ty r)) : ∀ (l : List It) (al : Nat → Bool) (V : Nat → Nat → List It) (μ : ab_M), V r j = l → TMo X S μ m s n al ty V U ε uM pM → TS μ s S N → TC S μ m n al ty V U → al r = true →
    ∃ x : Int, (ab_run wt (d + 1) 61 0 [(2, 7756), (0, (ε r)), (0, (fX s (ty r) j)), (3, 0)] [] μ) = some ((0, x), μ) ∧ R3 (ab_run wt (d + 4) 272 7 [(2, 7756), (0, (ε r)), (0, (fX s (ty r) j)), (0, x)] [] μ) (fun μ' => ∃ cur, TMo X S μ' m s n cur ty (upV V r j []) U ε uM pM ∧ TC S μ' m n cur ty (upV V r j []) U ∧ frK m μ μ' ∧ AL S n al cur ty V (upV V r j []) r) := sorry
theorem tw_removeField {X : RsvT} (hr : r < n) (hj : j < fCt S (ty r)) (h : TMo X S μ m s n al ty V U ε uM pM) (ts : TS μ s S N) (tc : TC S μ m n al ty V U) (ha : al r = true) :
    R3 (ab_run wt (d + 4) 272 0 [(2, 7756), (0, (ε r)), (0, (fX s (ty r) j)), (3, 0)] [] μ) (fun μ' => ∃ cur, TMo X S μ' m s n cur ty (upV V r j []) U ε uM pM ∧ TC S μ' m n cur ty (upV V r j []) U ∧ frK m μ μ' ∧ AL S n al cur ty V (upV V r j []) r) := sorry
theorem TMo.tyr {X : RsvT} (h : TMo X S μ m s n al ty V U ε uM pM) (hr : r < n) (ha : al r = true) : (ty r : Int) < S 0 0 0 ∧ S 2 (ty r) 0 = 1 := sorry
theorem TM.tyr (h : TM S μ m s n al ty V U ε uM pM) (hr : r < n) (ha : al r = true) : (ty r : Int) < S 0 0 0 ∧ S 2 (ty r) 0 = 1 := sorry
theorem tw_leaveL {X : RsvT} (hr : r < n) (hj : j < fCt S (ty r)) : ∀ (k i : Nat) (al : Nat → Bool) (V : Nat → Nat → List It) (μ : ab_M), i + k = fCt S (ty r) → TMo X S μ m s n al ty V U ε uM pM → TS μ s S N → TC S μ m n al ty V U → al r = true →
    R3 (ab_run wt (d + 5) 145 21 [(2, 7756), (0, (ε r)), (0, (fX s (ty r) j)), (0, (((30 * s + ty r : Nat) : Int))), (0, (((fX s (ty r) i : Nat) : Int)))] [] μ) (fun μ' => ∃ cur, TMo X S μ' m s n cur ty (lvV S (ty r) r j V k i) U ε uM pM ∧ TC S μ' m n cur ty (lvV S (ty r) r j V k i) U ∧ frK m μ μ' ∧ AL S n al cur ty V (lvV S (ty r) r j V k i) r) := sorry
theorem tw_leaveOthers {X : RsvT} (hr : r < n) (hj : j < fCt S (ty r)) (h : TMo X S μ m s n al ty V U ε uM pM) (ts : TS μ s S N) (tc : TC S μ m n al ty V U) (ha : al r = true) :
    R3 (ab_run wt (d + 5) 145 0 [(2, 7756), (0, (ε r)), (0, (fX s (ty r) j)), (3, 0), (3, 0)] [] μ) (fun μ' => ∃ cur, TMo X S μ' m s n cur ty (lvO S (ty r) r j V) U ε uM pM ∧ TC S μ' m n cur ty (lvO S (ty r) r j V) U ∧ frK m μ μ' ∧ AL S n al cur ty V (lvO S (ty r) r j V) r) := sorry
end Th
end
section
section Th
variable {μ μ' μ'' : ab_M} {d : Nat} {S : SF} {N : NF} {m s n : Nat} {al : Nat → Bool} {ty : Nat → Nat} {V V' : Nat → Nat → List It} {U : Nat → List Un} {ε : Nat → Nat} {W : Nat → List We} {c uc : Nat → List Nat} {own : Nat → Nat} {uM pM r j : Nat}
theorem tw_isDef51 {f fi : Nat} (hm : m < 16) (hf : f < 3600) : ∀ (l q : List Int) (k n : Nat), l.length = q.length → k + l.length = n → n ≤ 60 → fi + n ≤ 9000 → tBy μ 7879 (9000 * m + fi + k) l → tBy μ 7806 (60 * f + k) q → (ab_run wt (d + 1) 84 51 [(2, 7756), (0, m), (0, f), (3, 0), (3, 0), (0, fi), (0, n), (0, 1), (0, k)] [] μ) = some ((0, if l = q then 1 else 0), μ) := sorry
def isDf (S : SF) (N : NF) (t j : Nat) (v : Int) (l : List Int) : Prop := if S 12 t j = 9 ∨ S 12 t j = 10 then l = N 7 t j else v = S 19 t j
theorem tw_isDefault {t : Nat} {fi : Nat} {v : Int} {l : List Int} (ts : TS μ s S N) (hm : m < 16) (t1 : (t : Int) < S 0 0 0) (t2 : S 2 t 0 = 1) (hj : j < fCt S t) (hl : fi + l.length ≤ 9000) (hb : tBy μ 7879 (9000 * m + fi) l) : ∃ x : Int, (ab_run wt (d + 2) 84 0 [(2, 7756), (0, m), (0, (fX s t j)), (1, v), (3, 0), (0, fi), (0, (l.length)), (3, 0), (3, 0)] [] μ) = some ((0, x), μ) ∧ (x = 0 ∨ x = 1) ∧ (x = 1 ↔ isDf S N t j v l) := sorry
theorem tH.rep {X : RsvT} {e pM' : Nat} {t t' : It} {c1 c2 : List Nat} {W1 W2 : List We} (h : tH S μ m s n al ty V U ε W c uc own uM pM) (ro : rsvT X S μ m s n al ε c uc uM pM) (hr : r < n) (ha : al r = true) (hc : c r = c1 ++ e :: c2) (hw : W r = W1 ++ (j, t) :: W2) (hl : c1.length = W1.length) (h0 : fSo (S 12 (ty r) j) = 2 → t'.2.2.2.2 = t.2.2.2.2)
    (hp : μ' 7868 m = pM' ∧ pM ≤ pM' ∧ pM' ≤ 9000) (f : ∀ a, 7863 ≤ a → a ≤ 7878 → ∀ i, (a < 7873 ∨ i ≠ e) → a ≠ 7868 → (a ≠ 7866 ∨ i ≠ m) → (a ≠ 7865 ∨ i ≠ m) → μ' a i = μ a i) (f3 : ∀ k, 9000 * m ≤ k → k < 9000 * m + pM → μ' 7879 k = μ 7879 k)
    (g : μ' 7873 e = t'.2.2.1 ∧ tMx μ' m pM' 7874 7875 e t'.2.2.2.1 ∧ μ' 7876 e = t'.1 ∧ tMx μ' m pM' 7877 7878 e t'.2.1) : TMo X S μ' m s n al ty (upV V r j (wV W1 j ++ t' :: wV W2 j)) U ε uM pM' := sorry
end Th
end
section
section Th
variable {μ μ' μ'' : ab_M} {d : Nat} {S : SF} {N : NF} {m s n : Nat} {al : Nat → Bool} {ty : Nat → Nat} {V V' : Nat → Nat → List It} {U : Nat → List Un} {ε : Nat → Nat} {W : Nat → List We} {c uc : Nat → List Nat} {own : Nat → Nat} {uM pM r j : Nat}
theorem lvO_j : lvO S (ty r) r j V r j = V r j := sorry
theorem tw_set60d {X : RsvT} {x : Int} {v : Int} {fi ln : Nat} (hr : r < n) (hj : j < fCt S (ty r)) (h : TMo X S μ m s n al ty V U ε uM pM) (ts : TS μ s S N) (tc : TC S μ m n al ty V U) (ha : al r = true) (hv : (V r j).length ≤ 1) (hx : (ab_run wt (d + 1) 61 0 [(2, 7756), (0, (ε r)), (0, (fX s (ty r) j)), (3, 0)] [] μ) = some ((0, x), μ)) :
    R3 (ab_run wt (d + 4) 284 60 [(2, 7756), (0, (ε r)), (0, (fX s (ty r) j)), (1, v), (3, 0), (0, fi), (0, ln), (0, m), (0, x), (3, 0)] [(0, 0)] μ) (fun μ' => ∃ cur, TMo X S μ' m s n cur ty (upV V r j []) U ε uM pM ∧ TC S μ' m n cur ty (upV V r j []) U ∧ frK m μ μ' ∧ AL S n al cur ty V (upV V r j []) r) := sorry
theorem tw_set60k {X : RsvT} {x : Int} {v : Int} {fi : Nat} {l : List Int} (hr : r < n) (hj : j < fCt S (ty r)) (h : TMo X S μ m s n al ty V U ε uM pM) (ts : TS μ s S N) (tc : TC S μ m n al ty V U) (ha : al r = true) (hv : (V r j).length ≤ 1) (h0 : fSo (S 12 (ty r) j) ≠ 2) (h1 : S 11 (ty r) j < 2) (hk : ∀ t ∈ V r j, t.1 = 0 ∧ t.2.1 = []) (hu : uM < 4600) (hl : fi + l.length ≤ pM) (hb : tBy μ 7879 (9000 * m + fi) l) (hx : (ab_run wt (d + 1) 61 0 [(2, 7756), (0, (ε r)), (0, (fX s (ty r) j)), (3, 0)] [] μ) = some ((0, x), μ)) :
    R3 (ab_run wt (d + 4) 284 60 [(2, 7756), (0, (ε r)), (0, (fX s (ty r) j)), (1, v), (3, 0), (0, fi), (0, (l.length)), (0, m), (0, x), (3, 0)] [(0, 1)] μ) (fun μ' => ∃ uM', uM ≤ uM' ∧ uM' ≤ uM + 1 ∧ TMo X S μ' m s n al ty (upV V r j [(0, [], v, l, 0)]) U ε uM' pM ∧ TC S μ' m n al ty (upV V r j [(0, [], v, l, 0)]) U ∧ frH m μ μ') := sorry
end Th
end
section
section Th
variable {μ μ' μ'' : ab_M} {d : Nat} {S : SF} {N : NF} {m s n : Nat} {al : Nat → Bool} {ty : Nat → Nat} {V V' : Nat → Nat → List It} {U : Nat → List Un} {ε : Nat → Nat} {W : Nat → List We} {c uc : Nat → List Nat} {own : Nat → Nat} {uM pM r j : Nat}
theorem AL.up {r' : Nat} {l : List It} (h : fSo (S 12 (ty r) j) ≠ 2) : AL S n al al ty V (upV V r j l) r' := sorry
theorem TMo.find {X : RsvT} (hr : r < n) (h : TMo X S μ m s n al ty V U ε uM pM) (ts : TS μ s S N) (ha : al r = true) : ∃ x : Int, (ab_run wt (d + 1) 61 0 [(2, 7756), (0, (ε r)), (0, (fX s (ty r) j)), (3, 0)] [] μ) = some ((0, x), μ) ∧ (V r j = [] → x = -2) ∧ (V r j ≠ [] → 0 ≤ x) ∧ (fSo (S 12 (ty r) j) = 2 → ∀ t l, V r j = t :: l → x = ε t.2.2.2.2) ∧ m < 16 ∧ ε r < 73600 ∧ ε r / 4600 = m := sorry
theorem TM.find (hr : r < n) (h : TM S μ m s n al ty V U ε uM pM) (ts : TS μ s S N) (ha : al r = true) : ∃ x : Int, (ab_run wt (d + 1) 61 0 [(2, 7756), (0, (ε r)), (0, (fX s (ty r) j)), (3, 0)] [] μ) = some ((0, x), μ) ∧ (V r j = [] → x = -2) ∧ (V r j ≠ [] → 0 ≤ x) ∧ (fSo (S 12 (ty r) j) = 2 → ∀ t l, V r j = t :: l → x = ε t.2.2.2.2) ∧ m < 16 ∧ ε r < 73600 ∧ ε r / 4600 = m := sorry
theorem ow_setField {X : RsvT} {v : Int} {fi : Nat} {l : List Int} (hr : r < n) (hj : j < fCt S (ty r)) (h : TMo X S μ m s n al ty V U ε uM pM) (ts : TS μ s S N) (tc : TC S μ m n al ty V U) (ha : al r = true) (hv : (V r j).length ≤ 1) (h0 : fSo (S 12 (ty r) j) ≠ 2) (h1 : S 11 (ty r) j < 2) (hk : ∀ t ∈ V r j, t.1 = 0 ∧ t.2.1 = []) (hu : uM < 4600) (hl : fi + l.length ≤ pM) (hb : tBy μ 7879 (9000 * m + fi) l) :
    R3 (ab_run wt (d + 6) 284 0 [(2, 7756), (0, (ε r)), (0, (fX s (ty r) j)), (1, v), (3, 0), (0, fi), (0, (l.length)), (3, 0), (3, 0), (3, 0)] [] μ) (fun μ' => ∃ cur uM', uM ≤ uM' ∧ uM' ≤ uM + 1 ∧ ((isPl S (ty r) j ∧ isDf S N (ty r) j v l) → TMo X S μ' m s n cur ty (upV (lvO S (ty r) r j V) r j []) U ε uM' pM ∧ TC S μ' m n cur ty (upV (lvO S (ty r) r j V) r j []) U ∧ AL S n al cur ty V (upV (lvO S (ty r) r j V) r j []) r) ∧
      (¬ (isPl S (ty r) j ∧ isDf S N (ty r) j v l) → TMo X S μ' m s n cur ty (upV (lvO S (ty r) r j V) r j [(0, [], v, l, 0)]) U ε uM' pM ∧ TC S μ' m n cur ty (upV (lvO S (ty r) r j V) r j [(0, [], v, l, 0)]) U ∧ AL S n al cur ty V (upV (lvO S (ty r) r j V) r j [(0, [], v, l, 0)]) r) ∧ frH m μ μ') := sorry
theorem tw_setField {v : Int} {fi : Nat} {l : List Int} (hr : r < n) (hj : j < fCt S (ty r)) (h : TM S μ m s n al ty V U ε uM pM) (ts : TS μ s S N) (tc : TC S μ m n al ty V U) (ha : al r = true) (hv : (V r j).length ≤ 1) (h0 : fSo (S 12 (ty r) j) ≠ 2) (h1 : S 11 (ty r) j < 2) (hk : ∀ t ∈ V r j, t.1 = 0 ∧ t.2.1 = []) (hu : uM < 4600) (hl : fi + l.length ≤ pM) (hb : tBy μ 7879 (9000 * m + fi) l) :
    R3 (ab_run wt (d + 6) 284 0 [(2, 7756), (0, (ε r)), (0, (fX s (ty r) j)), (1, v), (3, 0), (0, fi), (0, (l.length)), (3, 0), (3, 0), (3, 0)] [] μ) (fun μ' => ∃ cur uM', uM ≤ uM' ∧ uM' ≤ uM + 1 ∧ ((isPl S (ty r) j ∧ isDf S N (ty r) j v l) → TM S μ' m s n cur ty (upV (lvO S (ty r) r j V) r j []) U ε uM' pM ∧ TC S μ' m n cur ty (upV (lvO S (ty r) r j V) r j []) U ∧ AL S n al cur ty V (upV (lvO S (ty r) r j V) r j []) r) ∧
      (¬ (isPl S (ty r) j ∧ isDf S N (ty r) j v l) → TM S μ' m s n cur ty (upV (lvO S (ty r) r j V) r j [(0, [], v, l, 0)]) U ε uM' pM ∧ TC S μ' m n cur ty (upV (lvO S (ty r) r j V) r j [(0, [], v, l, 0)]) U ∧ AL S n al cur ty V (upV (lvO S (ty r) r j V) r j [(0, [], v, l, 0)]) r) ∧ frH m μ μ') := sorry
end Th
end
section
section Th
variable {μ μ' μ'' : ab_M} {d : Nat} {S : SF} {N : NF} {m s n : Nat} {al : Nat → Bool} {ty : Nat → Nat} {V V' : Nat → Nat → List It} {U : Nat → List Un} {ε : Nat → Nat} {W : Nat → List We} {c uc : Nat → List Nat} {own : Nat → Nat} {uM pM r j : Nat}
theorem nwV_lt {r : Nat} (h : r < n) : nwV V n r = V r := sorry
theorem nwU_lt {r : Nat} (h : r < n) : nwU U n r = U r := sorry
theorem tH.fresh {e t k : Nat} (h : tH S μ m s n al ty V U ε W c uc own uM pM) (he : 4600 * m < e ∧ e < 4600 * m + uM) (ne : ∀ r, r < n → al r = true → ε r ≠ e) (z1 : μ 7871 e = -2) (z2 : μ 7872 e = -2) (t1 : (t : Int) < S 0 0 0) (t2 : S 2 t 0 = 1) (hj : j < fCt S t) (ef : μ 7869 e = fX s t j) (k12 : S 12 t j = 12) (k13 : S 13 t j = k) (hk : (k : Int) < S 0 0 0 ∧ S 2 k 0 = 1) :
    tH S μ m s (n + 1) (upL al n true) (upT ty n k) (nwV V n) (nwU U n) (upL ε n e) (upL W n []) (upL c n []) (upL uc n []) own uM pM := sorry
theorem tH.pr {X : RsvT} {k : Nat} {μ2 : ab_M} (h : tH S μ m s n al ty V U ε W c uc own uM pM) (ro : rsvT X S μ m s n al ε c uc uM pM) (ts : TS μ s S N) (hr : r < n) (ha : al r = true) (hu : uM < 4600) (hj : j < fCt S (ty r)) (hp : tPn S μ m s pM ε (ty r) j r (V r j) (c r) (W r) (4600 * m + uM) μ2) (k12 : S 12 (ty r) j = 12) (k13 : S 13 (ty r) j = k) (hk : (k : Int) < S 0 0 0 ∧ S 2 k 0 = 1) :
    TMo X S μ2 m s (n + 1) (upL al n true) (upT ty n k) (upV (nwV V n) r j (V r j ++ [itR n])) (nwU U n) (upL ε n (4600 * m + uM)) (uM + 1) pM ∧ frH m μ μ2 := sorry
theorem TC.pr {k : Nat} (h : TC S μ m n al ty V U) (hr : r < n) (ha : al r = true) (hj : j < fCt S (ty r)) (e1 : μ' 7865 m = μ 7865 m + tWg (S 11 (ty r) j) (decide (V r j = []))) (e2 : μ' 7866 m = μ 7866 m) : TC S μ' m (n + 1) (upL al n true) (upT ty n k) (upV (nwV V n) r j (V r j ++ [itR n])) (nwU U n) := sorry
end Th
end
section
section Th
variable {μ μ' μ'' : ab_M} {d : Nat} {S : SF} {N : NF} {m s n : Nat} {al : Nat → Bool} {ty : Nat → Nat} {V V' : Nat → Nat → List It} {U : Nat → List Un} {ε : Nat → Nat} {W : Nat → List We} {c uc : Nat → List Nat} {own : Nat → Nat} {uM pM r j : Nat}
theorem noOr.pr {k : Nat} {F : Nat → Prop} (h : noOr S n al ty V F) (hr : r < n) (ha : al r = true) (hj : j < fCt S (ty r)) (h2 : fSo (S 12 (ty r) j) = 2) : noOr S (n + 1) (upL al n true) (upT ty n k) (upV (nwV V n) r j (V r j ++ [itR n])) F := sorry
theorem ow_newRec {X : RsvT} {k : Nat} (hr : r < n) (hj : j < fCt S (ty r)) (h : TMo X S μ m s n al ty V U ε uM pM) (ts : TS μ s S N) (tc : TC S μ m n al ty V U) (ha : al r = true) (hu : uM < 4600) (k12 : S 12 (ty r) j = 12) (k13 : S 13 (ty r) j = k) (hk : (k : Int) < S 0 0 0 ∧ S 2 k 0 = 1) :
    (ab_run wt (d + 1) 171 0 [(2, 7756), (0, m), (0, (fX s (ty r) j)), (3, 0)] [] μ) = some ((0, ((4600 * m + uM : Nat) : Int)), neM μ m (fX s (ty r) j) (4600 * m + uM)) ∧
    R3 (ab_run wt (d + 2) 226 0 [(2, 7756), (0, (ε r)), (0, (((4600 * m + uM : Nat) : Int))), (3, 0), (3, 0), (3, 0), (3, 0), (3, 0)] [] (neM μ m (fX s (ty r) j) (4600 * m + uM))) (fun μ' => TMo X S μ' m s (n + 1) (upL al n true) (upT ty n k) (upV (nwV V n) r j (V r j ++ [itR n])) (nwU U n) (upL ε n (4600 * m + uM)) (uM + 1) pM ∧ TC S μ' m (n + 1) (upL al n true) (upT ty n k) (upV (nwV V n) r j (V r j ++ [itR n])) (nwU U n) ∧ frK m μ μ') := sorry
theorem ow_enter0 {X : RsvT} {k : Nat} (hr : r < n) (hj : j < fCt S (ty r)) (h : TMo X S μ m s n al ty V U ε uM pM) (ts : TS μ s S N) (tc : TC S μ m n al ty V U) (ha : al r = true) (hu : uM < 4600) (k12 : S 12 (ty r) j = 12) (k13 : S 13 (ty r) j = k) (hk : (k : Int) < S 0 0 0 ∧ S 2 k 0 = 1) (hv : V r j = []) :
    R0 (ab_run wt (d + 6) 46 0 [(2, 7756), (0, (ε r)), (0, (fX s (ty r) j)), (3, 0)] [] μ) (fun v μ' => v = ((4600 * m + uM : Nat) : Int) ∧ ∃ cur, TMo X S μ' m s (n + 1) (upL cur n true) (upT ty n k) (upV (nwV (lvO S (ty r) r j V) n) r j [itR n]) (nwU U n) (upL ε n (4600 * m + uM)) (uM + 1) pM ∧ TC S μ' m (n + 1) (upL cur n true) (upT ty n k) (upV (nwV (lvO S (ty r) r j V) n) r j [itR n]) (nwU U n) ∧ frK m μ μ' ∧ (∀ x, cur x = true → al x = true) ∧ (∀ x, x < n → x ≤ r → al x = true → cur x = true) ∧ ∀ F, noOr S n al ty V F → noOr S (n + 1) (upL cur n true) (upT ty n k) (upV (nwV (lvO S (ty r) r j V) n) r j [itR n]) F) := sorry
theorem tw_enter1 {X : RsvT} {t : It} {l : List It} (hr : r < n) (hj : j < fCt S (ty r)) (h : TMo X S μ m s n al ty V U ε uM pM) (ts : TS μ s S N) (tc : TC S μ m n al ty V U) (ha : al r = true) (k12 : S 12 (ty r) j = 12) (hv : V r j = t :: l) (hl : lvO S (ty r) r j V = V) :
    R0 (ab_run wt (d + 6) 46 0 [(2, 7756), (0, (ε r)), (0, (fX s (ty r) j)), (3, 0)] [] μ) (fun v μ' => v = ε t.2.2.2.2 ∧ ∃ cur, TMo X S μ' m s n cur ty V U ε uM pM ∧ TC S μ' m n cur ty V U ∧ frK m μ μ' ∧ AL S n al cur ty V V r ∧ t.2.2.2.2 < n ∧ cur t.2.2.2.2 = true ∧ r < t.2.2.2.2) := sorry
theorem tw_newRec {k : Nat} (hr : r < n) (hj : j < fCt S (ty r)) (h : TM S μ m s n al ty V U ε uM pM) (ts : TS μ s S N) (tc : TC S μ m n al ty V U) (ha : al r = true) (hu : uM < 4600) (k12 : S 12 (ty r) j = 12) (k13 : S 13 (ty r) j = k) (hk : (k : Int) < S 0 0 0 ∧ S 2 k 0 = 1) :
    (ab_run wt (d + 1) 171 0 [(2, 7756), (0, m), (0, (fX s (ty r) j)), (3, 0)] [] μ) = some ((0, ((4600 * m + uM : Nat) : Int)), neM μ m (fX s (ty r) j) (4600 * m + uM)) ∧
    R3 (ab_run wt (d + 2) 226 0 [(2, 7756), (0, (ε r)), (0, (((4600 * m + uM : Nat) : Int))), (3, 0), (3, 0), (3, 0), (3, 0), (3, 0)] [] (neM μ m (fX s (ty r) j) (4600 * m + uM))) (fun μ' => TM S μ' m s (n + 1) (upL al n true) (upT ty n k) (upV (nwV V n) r j (V r j ++ [itR n])) (nwU U n) (upL ε n (4600 * m + uM)) (uM + 1) pM ∧ TC S μ' m (n + 1) (upL al n true) (upT ty n k) (upV (nwV V n) r j (V r j ++ [itR n])) (nwU U n) ∧ frK m μ μ') := sorry
theorem tw_enter0 {k : Nat} (hr : r < n) (hj : j < fCt S (ty r)) (h : TM S μ m s n al ty V U ε uM pM) (ts : TS μ s S N) (tc : TC S μ m n al ty V U) (ha : al r = true) (hu : uM < 4600) (k12 : S 12 (ty r) j = 12) (k13 : S 13 (ty r) j = k) (hk : (k : Int) < S 0 0 0 ∧ S 2 k 0 = 1) (hv : V r j = []) :
    R0 (ab_run wt (d + 6) 46 0 [(2, 7756), (0, (ε r)), (0, (fX s (ty r) j)), (3, 0)] [] μ) (fun v μ' => v = ((4600 * m + uM : Nat) : Int) ∧ ∃ cur, TM S μ' m s (n + 1) (upL cur n true) (upT ty n k) (upV (nwV (lvO S (ty r) r j V) n) r j [itR n]) (nwU U n) (upL ε n (4600 * m + uM)) (uM + 1) pM ∧ TC S μ' m (n + 1) (upL cur n true) (upT ty n k) (upV (nwV (lvO S (ty r) r j V) n) r j [itR n]) (nwU U n) ∧ frK m μ μ' ∧ (∀ x, cur x = true → al x = true) ∧ (∀ x, x < n → x ≤ r → al x = true → cur x = true) ∧ ∀ F, noOr S n al ty V F → noOr S (n + 1) (upL cur n true) (upT ty n k) (upV (nwV (lvO S (ty r) r j V) n) r j [itR n]) F) := sorry
end Th
end
section
section Ky
variable {μ μ' : ab_M} {d : Nat} {S : SF} {N : NF} {m s : Nat} {pM : Nat}
def lexT : List Int → List Int → Int
  | [], b => -(b.length : Int)
  | x :: a, [] => ((x :: a).length : Int)
  | x :: a, y :: b => if x = y then lexT a b else x - y
theorem lexT_nil {a : List Int} : lexT a [] = a.length := sorry
def kyC (k : Int) (t : It) (v : Int) (l : List Int) : Int := if k = 9 then lexT t.2.1 l else kCmp k t.1 v
theorem xor_min (x : BitVec 64) : x ^^^ BitVec.intMin 64 = x + BitVec.intMin 64 := sorry
theorem xor64_min {x : Int} : xor64 x (-9223372036854775808) = w64 (x - 9223372036854775808) := sorry
theorem lcm3_sg {x y : Int} : (lcm3 x y < 0 ↔ x < y) ∧ (0 < lcm3 x y ↔ y < x) := sorry
theorem tw_cmp38 {e : Nat} {k v : Int} (he : e < 73600) (ha : -9223372036854775808 ≤ μ 7876 e ∧ μ 7876 e < 9223372036854775808) (hv : -9223372036854775808 ≤ v ∧ v < 9223372036854775808) : (ab_run wt (d + 1) 26 38 [(2, 7756), (3, 0), (0, e), (1, v), (3, 0), (3, 0), (3, 0), (3, 0), (3, 0), (3, 0), (3, 0), (3, 0), (3, 0)] [(0, ((if k = 6 ∨ k = 8 then 1 else 0)))] μ) = some ((0, kCmp k (μ 7876 e) v), μ) := sorry
theorem tw_cmp111 {e fi f0 n0 : Nat} (hm : m < 16) (he : e < 73600) (hem : e / 4600 = m) (k0 : μ 7877 e = f0) (k1 : μ 7878 e = n0) (h0 : f0 + n0 ≤ 9000) : ∀ (a l : List Int) (k n : Nat), k + a.length = n0 → k + l.length = n → fi + n ≤ 9000 → tBy μ 7879 (9000 * m + f0 + k) a → tBy μ 7879 (9000 * m + fi + k) l → (∀ x ∈ a, 0 ≤ x ∧ x < 256) → (∀ x ∈ l, 0 ≤ x ∧ x < 256) → (ab_run wt (d + 3) 26 111 [(2, 7756), (3, 0), (0, e), (3, 0), (3, 0), (0, m), (0, fi), (0, n), (0, k), (3, 0), (3, 0), (3, 0), (3, 0)] [] μ) = some ((0, lexT a l), μ) := sorry
def byt (l : List Int) : Prop := ∀ x ∈ l, 0 ≤ x ∧ x < 256
def lng (v : Int) : Prop := -9223372036854775808 ≤ v ∧ v < 9223372036854775808
theorem tw_compareKeys {e t j fi : Nat} {ε : Nat → Nat} {x : It} {v : Int} {l : List Int} (ts : TS μ s S N) (hm : m < 16) (he : e < 73600) (hem : e / 4600 = m) (t1 : (t : Int) < S 0 0 0) (t2 : S 2 t 0 = 1) (m3 : S 11 t j = 3) (hj : j < fCt S t) (hp : pM ≤ 9000) (en : tEn S μ m s pM ε t e (j, x)) (hl : fi + l.length ≤ pM) (hb : tBy μ 7879 (9000 * m + fi) l) (b1 : byt x.2.1) (b2 : byt l) (v1 : lng x.1) (v2 : lng v) :
    (ab_run wt (d + 3) 26 0 [(2, 7756), (0, (fX s t j)), (0, e), (1, v), (3, 0), (0, m), (0, fi), (0, (l.length)), (3, 0), (3, 0), (3, 0), (3, 0), (3, 0)] [] μ) = some ((0, kyC (S 14 t j) x v l), μ) := sorry
end Ky
end
section
section Th
variable {μ μ' μ'' : ab_M} {d : Nat} {S : SF} {N : NF} {m s n : Nat} {al : Nat → Bool} {ty : Nat → Nat} {V V' : Nat → Nat → List It} {U : Nat → List Un} {ε : Nat → Nat} {W : Nat → List We} {c uc : Nat → List Nat} {own : Nat → Nat} {uM pM r j : Nat}
def kTk (k v : Int) (l : List Int) : List It → List It
  | [] => []
  | t :: L => if kyC k t v l < 0 then t :: kTk k v l L else []
def kDp (k v : Int) (l : List Int) : List It → List It
  | [] => []
  | t :: L => if kyC k t v l < 0 then kDp k v l L else t :: L
theorem kTD {k v : Int} {l : List Int} : ∀ L : List It, kTk k v l L ++ kDp k v l L = L := sorry
theorem tw_kp19 {f fi ln : Nat} {v : Int} (hf : f < 3600) : ∀ (ca cb c0 : List Nat) (x : Int), tSg μ x (ca ++ cb) (-2) → (∀ i ∈ ca ++ cb, i < 73600 ∧ 0 ≤ μ 7869 i ∧ μ 7869 i < 3600) → (∀ i ∈ ca, μ 7778 (μ 7869 i).toNat < μ 7778 f) → (∀ i, cb.head? = some i → μ 7778 f ≤ μ 7778 (μ 7869 i).toNat) →
    ∃ y, tSg μ y cb (-2) ∧ (ab_run wt (d + 1) 135 19 [(2, 7756), (3, 0), (0, f), (1, v), (3, 0), (0, fi), (0, ln), (0, m), (0, (lsI c0)), (0, x), (3, 0)] [] μ) = (ab_run wt (d + 1) 135 66 [(2, 7756), (3, 0), (0, f), (1, v), (3, 0), (0, fi), (0, ln), (0, m), (0, (lsI (c0 ++ ca))), (0, y), (3, 0)] [] (ab_up μ 7756 166 0)) := sorry
theorem tw_kp66 {t fi : Nat} {v : Int} {l : List Int} (hm : m < 16) (t1 : (t : Int) < S 0 0 0) (t2 : S 2 t 0 = 1) (m3 : S 11 t j = 3) (hj : j < fCt S t) (hp : pM ≤ 9000) (hl : fi + l.length ≤ pM) (b2 : byt l) (v2 : lng v) (ts : TS μ s S N) (hb : tBy μ 7879 (9000 * m + fi) l) : ∀ (cb : List Nat) (Wb : List We) (c0 : List Nat) (y : Int), tSg μ y cb (-2) → tEs S μ m s pM ε t cb Wb → (∀ i ∈ cb, i < 73600 ∧ i / 4600 = m) → Wb.Pairwise (fun a b => S 10 t a.1 ≤ S 10 t b.1) → (∀ x ∈ Wb, S 10 t j ≤ S 10 t x.1) → (∀ x ∈ wV Wb j, byt x.2.1 ∧ lng x.1) →
    ∃ c2a c2b W2a W2b, cb = c2a ++ c2b ∧ Wb = W2a ++ W2b ∧ c2a.length = W2a.length ∧ (∀ x ∈ W2a, x.1 = j) ∧ wV W2a j = kTk (S 14 t j) v l (wV Wb j) ∧ wV W2b j = kDp (S 14 t j) v l (wV Wb j) ∧
      ((∃ x L e c' W', kDp (S 14 t j) v l (wV Wb j) = x :: L ∧ kyC (S 14 t j) x v l = 0 ∧ W2b = (j, x) :: W' ∧ c2b = e :: c' ∧ (ab_run wt (d + 4) 135 66 [(2, 7756), (3, 0), (0, (fX s t j)), (1, v), (3, 0), (0, fi), (0, (l.length)), (0, m), (0, (lsI c0)), (0, y), (3, 0)] [] μ) = some ((0, lsI (c0 ++ c2a)), ab_up (ab_up μ 7756 166 1) 7756 167 (e : Nat))) ∨
       ((∀ x L, kDp (S 14 t j) v l (wV Wb j) = x :: L → 0 < kyC (S 14 t j) x v l) ∧ (ab_run wt (d + 4) 135 66 [(2, 7756), (3, 0), (0, (fX s t j)), (1, v), (3, 0), (0, fi), (0, (l.length)), (0, m), (0, (lsI c0)), (0, y), (3, 0)] [] μ) = some ((0, lsI (c0 ++ c2a)), μ))) := sorry
end Th
end
section
section Th
variable {μ μ' μ'' : ab_M} {d : Nat} {S : SF} {N : NF} {m s n : Nat} {al : Nat → Bool} {ty : Nat → Nat} {V V' : Nat → Nat → List It} {U : Nat → List Un} {ε : Nat → Nat} {W : Nat → List We} {c uc : Nat → List Nat} {own : Nat → Nat} {uM pM r j : Nat}
def tKp (S : SF) (t j : Nat) (c c1 c2 : List Nat) (W W1 W2 : List We) (A B : List It) : Prop := c = c1 ++ c2 ∧ W = W1 ++ W2 ∧ c1.length = W1.length ∧ (∀ x ∈ W1, S 10 t x.1 ≤ S 10 t j) ∧ (∀ x ∈ W2, S 10 t j ≤ S 10 t x.1) ∧ wV W1 j = A ∧ wV W2 j = B
theorem tw_keyPlace {fi : Nat} {v : Int} {l : List Int} (h : tH S μ m s n al ty V U ε W c uc own uM pM) (ts : TS μ s S N) (hr : r < n) (ha : al r = true) (hj : j < fCt S (ty r)) (m3 : S 11 (ty r) j = 3) (hl : fi + l.length ≤ pM) (hb : tBy μ 7879 (9000 * m + fi) l) (b2 : byt l) (v2 : lng v) (hk : ∀ x ∈ V r j, byt x.2.1 ∧ lng x.1) :
    ∃ c1 c2 W1 W2, tKp S (ty r) j (c r) c1 c2 (W r) W1 W2 (kTk (S 14 (ty r) j) v l (V r j)) (kDp (S 14 (ty r) j) v l (V r j)) ∧
      ((∃ x L e c' W', kDp (S 14 (ty r) j) v l (V r j) = x :: L ∧ kyC (S 14 (ty r) j) x v l = 0 ∧ W2 = (j, x) :: W' ∧ c2 = e :: c' ∧ (ab_run wt (d + 4) 135 0 [(2, 7756), (0, (ε r)), (0, (fX s (ty r) j)), (1, v), (3, 0), (0, fi), (0, (l.length)), (3, 0), (3, 0), (3, 0), (3, 0)] [] μ) = some ((0, lsI c1), ab_up (ab_up (ab_up μ 7756 166 0) 7756 166 1) 7756 167 (e : Nat))) ∨
       ((∀ x L, kDp (S 14 (ty r) j) v l (V r j) = x :: L → 0 < kyC (S 14 (ty r) j) x v l) ∧ (ab_run wt (d + 4) 135 0 [(2, 7756), (0, (ε r)), (0, (fX s (ty r) j)), (1, v), (3, 0), (0, fi), (0, (l.length)), (3, 0), (3, 0), (3, 0), (3, 0)] [] μ) = some ((0, lsI c1), ab_up μ 7756 166 0))) := sorry
theorem tw_putKey {e : Nat} {t : It} {c1 c2 : List Nat} {W1 W2 : List We} {A B : List It} (h : tH S μ m s n al ty V U ε W c uc own uM pM) (ts : TS μ s S N) (hr : r < n) (ha : al r = true) (hj : j < fCt S (ty r)) (kp : tKp S (ty r) j (c r) c1 c2 (W r) W1 W2 A B) (he : 4600 * m < e ∧ e < 4600 * m + uM ∧ ∀ r', r' < n → al r' = true → e ∉ c r' ∧ e ∉ uc r') (en : tEn S μ m s pM ε (ty r) e (j, t)) (g7 : fSo (S 12 (ty r) j) = 2 → t.2.2.2.2 < n ∧ al t.2.2.2.2 = true ∧ r < t.2.2.2.2) (er : e ≠ ε r)
    (v1 : 0 ≤ μ 7865 m) (v2 : μ 7865 m < 1000000) (b1 : 0 ≤ μ 7866 m) (b2 : μ 7866 m < 1000000000) :
    R3 (ab_run wt (d + 2) 227 0 [(2, 7756), (0, (ε r)), (0, (lsI c1)), (0, e), (3, 0), (3, 0)] [] μ) (fun μ' => (∃ own', tH S μ' m s n al ty (upV V r j (A ++ t :: B)) U ε (upL W r (W1 ++ (j, t) :: W2)) (upL c r (c1 ++ e :: c2)) uc own' uM pM) ∧ μ' 7865 m = μ 7865 m + (2 + (if V r j = [] then 1 else 0)) ∧ μ' 7866 m = μ 7866 m + t.2.1.length ∧ frK m μ μ' ∧ ∀ a, enF a → μ' a = μ a) := sorry
end Th
end
section
section Hp
variable {μ μ' μ'' : ab_M} {d : Nat} {A cr ci cb : Nat} {us ni : Nat}
theorem c_compareBytesL {a b o o' la lb n1 n2 : Nat} (ha : wc_ar a = (4, la)) (hb : wc_ar b = (4, lb)) (h1 : o + n1 ≤ la) (h2 : o' + n2 ≤ lb) (h3 : la < 100000) (h4 : lb < 100000) : ∀ (l l' : List Int) (k : Nat), k + l.length = n1 → k + l'.length = n2 → cBy μ a (o + k) l → cBy μ b (o' + k) l' →
    (ab_run wc (d + 1) 381 3 [(2, a), (0, o), (0, n1), (2, b), (0, (o')), (0, n2), (0, k), (3, 0)] [] μ) = some ((0, lexT l l'), μ) := sorry
theorem c_compareBytes {a b o o' la lb : Nat} {l l' : List Int} (ha : wc_ar a = (4, la)) (hb : wc_ar b = (4, lb)) (h1 : o + l.length ≤ la) (h2 : o' + l'.length ≤ lb) (h3 : la < 100000) (h4 : lb < 100000) (c1 : cBy μ a o l) (c2 : cBy μ b o' l') :
    (ab_run wc (d + 1) 381 0 [(2, a), (0, o), (0, (l.length)), (2, b), (0, (o')), (0, (l'.length)), (3, 0), (3, 0)] [] μ) = some ((0, lexT l l'), μ) := sorry
def kyA (μ : ab_M) (k : Int) (a o : Nat) (ln : Int) (l : List Int) : Prop := k = 9 → ln = l.length ∧ ∃ la, wc_ar a = (4, la) ∧ o + l.length ≤ la ∧ la < 100000 ∧ cBy μ a o l
theorem c_compareKeys {k : Int} {i so ks a o : Nat} {ln : Int} {t : It} {v : Int} {l : List Int} (hm : isM A cr ci cb) (k1 : 1 ≤ k) (k2 : k ≤ 9) (hks : ks = if k = 9 then 2 else 1) (hi : i < ci) (it : cIt μ A us so ks i t) (hu : us ≤ cb) (hl : kyA μ k a o ln l) (v1 : lng t.1) (v2 : k ≠ 9 → lng v) :
    (ab_run wc (d + 4) 382 0 [(2, 1), (2, A), (0, i), (2, (200000 + k)), (1, v), (3, 0), (2, a), (0, o), (0, ln)] [] μ) = some ((0, kyC k t v l), μ) := sorry
theorem c_itemOfL {k : Int} {so ks a o : Nat} {ln : Int} {v : Int} {l : List Int} (hm : isM A cr ci cb) (k1 : 1 ≤ k) (k2 : k ≤ 9) (hks : ks = if k = 9 then 2 else 1) (hu : us ≤ cb) (hl : kyA μ k a o ln l) (v2 : k ≠ 9 → lng v) (c : List Nat) (hc : ∀ i ∈ c, i < ci) (hn : ∀ (p i : Nat), c[p]? = some i → μ (msA A 22) i = nx c (p + 1)) :
    ∀ (L : List It) (p : Nat), p + L.length = c.length → (∀ (q i : Nat) (t : It), c[p + q]? = some i → L[q]? = some t → cIt μ A us so ks i t) → (∀ t ∈ L, lng t.1) →
    ∃ x : Int, (ab_run wc (d + 5) 427 21 [(2, 1), (2, A), (3, 0), (2, (200000 + k)), (1, v), (3, 0), (2, a), (0, o), (0, ln), (0, (nx c p))] [] μ) = some ((0, x), μ) ∧ ((x = -1 ∧ ∀ t ∈ L, kyC k t v l ≠ 0) ∨ ∃ (q i : Nat) (t : It), L[q]? = some t ∧ c[p + q]? = some i ∧ x = i ∧ kyC k t v l = 0 ∧ ∀ q' t', q' < q → L[q']? = some t' → kyC k t' v l ≠ 0) := sorry
theorem c_itemOf {k : Int} {so ks s a o : Nat} {ln : Int} {v : Int} {l : List Int} {L : List It} {c : List Nat} (hm : isM A cr ci cb) (k1 : 1 ≤ k) (k2 : k ≤ 9) (hks : ks = if k = 9 then 2 else 1) (hu : us ≤ cb) (hs : s < 24 * cr) (hni : ni ≤ ci) (hy : cMy μ A us ni so ks s L c) (hl : kyA μ k a o ln l) (v2 : k ≠ 9 → lng v) (hv : ∀ t ∈ L, lng t.1) :
    ∃ x : Int, (ab_run wc (d + 5) 427 0 [(2, 1), (2, A), (0, s), (2, (200000 + k)), (1, v), (3, 0), (2, a), (0, o), (0, ln), (3, 0)] [] μ) = some ((0, x), μ) ∧ ((x = -1 ∧ ∀ t ∈ L, kyC k t v l ≠ 0) ∨ ∃ (q i : Nat) (t : It), L[q]? = some t ∧ c[q]? = some i ∧ x = i ∧ kyC k t v l = 0 ∧ ∀ q' t', q' < q → L[q']? = some t' → kyC k t' v l ≠ 0) := sorry
end Hp
end
section
section Hp
variable {μ μ' μ'' : ab_M} {d : Nat} {A cr ci cb : Nat} {us ni : Nat}
def lst (c : List Nat) (p : Nat) : Int := if p = 0 then -1 else nx c (p - 1)
theorem c_insL {k : Int} {so ks a o s it : Nat} {ln : Int} {v : Int} {l : List Int} (hm : isM A cr ci cb) (k1 : 1 ≤ k) (k2 : k ≤ 9) (hks : ks = if k = 9 then 2 else 1) (hu : us ≤ cb) (hl : kyA μ k a o ln l) (v2 : k ≠ 9 → lng v) (c : List Nat) (hc : ∀ i ∈ c, i < ci) (hn : ∀ (p i : Nat), c[p]? = some i → μ (msA A 22) i = nx c (p + 1)) :
    ∀ (L : List It) (p : Nat), p + L.length = c.length → (∀ (q i : Nat) (t : It), c[p + q]? = some i → L[q]? = some t → cIt μ A us so ks i t) → (∀ t ∈ L, lng t.1) →
    (ab_run wc (d + 5) 411 72 [(2, 1), (2, A), (0, s), (2, (200000 + k)), (1, v), (3, 0), (2, a), (0, o), (0, ln), (0, it), (0, (lst c p)), (0, (nx c p))] [] μ) = (ab_run wc (d + 5) 411 112 [(3, 0), (2, A), (0, s), (3, 0), (3, 0), (3, 0), (3, 0), (3, 0), (3, 0), (0, it), (0, (lst c (p + (kTk k v l L).length))), (3, 0)] [] μ) := sorry
def inM4 (μ : ab_M) (A s it : Nat) (c : List Nat) (q n : Nat) : ab_M :=
  ab_up (if nx c q < 0 then ab_up (if q = 0 then ab_up (ab_up μ (msA A 22) it (nx c 0)) (msA A 14) s it else ab_up (ab_up μ (msA A 22) it (nx c q)) (msA A 22) (nx c (q - 1)).toNat it) (msA A 15) s it else (if q = 0 then ab_up (ab_up μ (msA A 22) it (nx c 0)) (msA A 14) s it else ab_up (ab_up μ (msA A 22) it (nx c q)) (msA A 22) (nx c (q - 1)).toNat it)) (msA A 16) s ((n + 1 : Nat) : Int)
theorem c_ins177 {s it n : Nat} (hm : isM A cr ci cb) (hs : s < 24 * cr) (hi : it < ci) (g1 : μ (msA A 16) s = n) (hn : n < 100000) : (ab_run wc (d + 1) 411 177 [(3, 0), (2, A), (0, s), (3, 0), (3, 0), (3, 0), (3, 0), (3, 0), (3, 0), (0, it), (3, 0), (3, 0)] [] μ) = some ((0, (it : Int)), ab_up (if μ (msA A 22) it < 0 then ab_up μ (msA A 15) s it else μ) (msA A 16) s ((n + 1 : Nat) : Int)) := sorry
theorem c_ins112 {s it n q : Nat} {c : List Nat} (hm : isM A cr ci cb) (hs : s < 24 * cr) (hi : it < ci) (hc : ∀ i ∈ c, i < ci) (hl : c.length = n) (g1 : μ (msA A 16) s = n) (hn : n < 100000) (g7 : c ≠ [] → μ (msA A 14) s = nx c 0) (hx : ∀ (p i : Nat), c[p]? = some i → μ (msA A 22) i = nx c (p + 1)) (hq : q ≤ n) (ic : it ∉ c) :
    (ab_run wc (d + 1) 411 112 [(3, 0), (2, A), (0, s), (3, 0), (3, 0), (3, 0), (3, 0), (3, 0), (3, 0), (0, it), (0, (lst c q)), (3, 0)] [] μ) = some ((0, (it : Int)), inM4 μ A s it c q n) := sorry
end Hp
end
section
section Hp
variable {μ μ' μ'' : ab_M} {d : Nat} {A cr ci cb b : Nat} {S : SF} {N : NF} {n : Nat} {ty : Nat → Nat} {V : Nat → Nat → List It} {U : Nat → List Un} {ni nu us : Nat} {X : Rsv}
def itm (μ : ab_M) (A s : Nat) : Nat → Int
  | 0 => μ (msA A 14) s
  | p + 1 => μ (msA A 22) (itm μ A s p).toNat
theorem itm_eq {so ks s : Nat} {L : List It} {c : List Nat} (h : cMy μ A us ni so ks s L c) : ∀ (p i : Nat), c[p]? = some i → itm μ A s p = i := sorry
theorem itm_to {s : Nat} (h14 : μ' (msA A 14) s = μ (msA A 14) s) (h22 : ∀ i, μ' (msA A 22) i = μ (msA A 22) i) : ∀ p, itm μ' A s p = itm μ A s p := sorry
theorem CM.fill {r j p : Nat} {t0 : It} (h : CM X S μ A cr ci cb n ty V U ni nu us) (hr : r < n) (hj : j < fCt S (ty r)) (h1 : 2 ≤ S 11 (ty r) j) (hp : (V r j)[p]? = some t0) :
    ∃ s i : Nat, s < 24 * cr ∧ (s : Int) < μ A 8 ∧ μ (msA A 5) r + j = s ∧ i < ni ∧ itm μ A s p = i ∧ cIt μ A us (fSo (S 12 (ty r) j)) (fKs (S 11 (ty r) j) (S 14 (ty r) j)) i t0 ∧
      ∀ (μ' : ab_M) (us' : Nat) (t : It), us ≤ us' → us' ≤ cb → (∀ i, i ≠ 33 → μ' A i = μ A i) → μ' A 33 = us' → cIt μ' A us' (fSo (S 12 (ty r) j)) (fKs (S 11 (ty r) j) (S 14 (ty r) j)) i t →
      (∀ f x, msO f ≠ 0 → (itF f → f ≠ 22 → x ≠ i) → (f = 32 → x < us) → μ' (msA A f) x = μ (msA A f) x) → CM X S μ' A cr ci cb n ty (upV V r j ((V r j).set p t)) U ni nu us' := sorry
def kyI (k v : Int) (l : List Int) : It := if k = 9 then (0, l, 0, [], hole) else (v, [], 0, [], hole)
def kyU (k : Int) (us : Nat) (l : List Int) : Nat := if k = 9 then us + l.length else us
theorem kTk_len {k v : Int} {l : List Int} (L : List It) : (kTk k v l L).length ≤ L.length := sorry
end Hp
end
section
section Hp
variable {μ μ' μ'' : ab_M} {d : Nat} {A cr ci cb b : Nat} {S : SF} {N : NF} {n : Nat} {ty : Nat → Nat} {V : Nat → Nat → List It} {U : Nat → List Un} {ni nu us : Nat} {X : Rsv}
theorem inM4_v {s it q n : Nat} {c : List Nat} : inM4 μ A s it c q n (msA A 16) s = ((n + 1 : Nat) : Int) ∧ inM4 μ A s it c q n (msA A 15) s = (if nx c q < 0 then (it : Int) else μ (msA A 15) s) ∧ inM4 μ A s it c q n (msA A 14) s = (if q = 0 then (it : Int) else μ (msA A 14) s) ∧
    (it ≠ (nx c (q - 1)).toNat ∨ q = 0 → inM4 μ A s it c q n (msA A 22) it = nx c q) ∧ (∀ x, x ≠ it → inM4 μ A s it c q n (msA A 22) x = if q ≠ 0 ∧ x = (nx c (q - 1)).toNat then (it : Int) else μ (msA A 22) x) ∧
    ∀ a x, (a ≠ msA A 16 ∨ x ≠ s) → (a ≠ msA A 15 ∨ x ≠ s) → (a ≠ msA A 14 ∨ x ≠ s) → (a ≠ msA A 22 ∨ x ≠ it ∧ (q = 0 ∨ x ≠ (nx c (q - 1)).toNat)) → inM4 μ A s it c q n a x = μ a x := sorry
def kyM (μ : ab_M) (A ni us : Nat) (k v : Int) (l : List Int) (μ1 : ab_M) : Prop := (∀ f x, msO f ≠ 0 → (itF f → x ≠ ni) → (f = 32 → x < us) → μ1 (msA A f) x = μ (msA A f) x) ∧ (∀ i, i ≠ 17 → i ≠ 33 → μ1 A i = μ A i) ∧ μ1 A 17 = ((ni + 1 : Nat) : Int) ∧ μ1 A 33 = (kyU k us l : Nat) ∧ (∀ a, ¬ inM A a → ∀ i, μ1 a i = μ a i) ∧ (k ≠ 9 → μ1 (msA A 23) ni = v) ∧ (k = 9 → cMt μ1 A (kyU k us l) 24 25 ni l) ∧ μ1 (msA A 22) ni = -1
theorem c_insKey {k : Int} {s a o : Nat} {ln : Int} {v : Int} {l : List Int} (hm : isM A cr ci cb) (hni : μ A 17 = ni) (hn : ni < ci) (hus : μ A 33 = us) (hl : kyA μ k a o ln l) (hin : k = 9 → ¬ inM A a) (hu : k = 9 → us + l.length ≤ cb) :
    ∃ μ1, (ab_run wc (d + 5) 411 0 [(2, 1), (2, A), (0, s), (2, (200000 + k)), (1, v), (3, 0), (2, a), (0, o), (0, ln), (3, 0), (3, 0), (3, 0)] [] μ) = (ab_run wc (d + 5) 411 48 [(2, 1), (2, A), (0, s), (2, (200000 + k)), (1, v), (3, 0), (2, a), (0, o), (0, ln), (0, ni), (3, 0), (3, 0)] [] μ1) ∧ kyM μ A ni us k v l μ1 := sorry
end Hp
end
section
section Hp
variable {μ μ' μ'' : ab_M} {d : Nat} {A cr ci cb b : Nat} {S : SF} {N : NF} {n : Nat} {ty : Nat → Nat} {V : Nat → Nat → List It} {U : Nat → List Un} {ni nu us : Nat} {X : Rsv}
theorem fKs_3 {k : Int} : fKs 3 k = if k = 9 then 2 else 1 := sorry
theorem itF_o {f : Nat} (h : itF f) : msO f ≠ 0 := sorry
theorem slF_o {f : Nat} (h : slF f) : msO f ≠ 0 ∧ ¬ itF f ∧ f ≠ 32 := sorry
theorem c_insert {k : Int} {r j a o : Nat} {ln : Int} {v : Int} {l : List Int} (hm : isM A cr ci cb) (hr : r < n) (hj : j < fCt S (ty r)) (m3 : S 11 (ty r) j = 3) (hk : S 14 (ty r) j = k) (k1 : 1 ≤ k) (k2 : k ≤ 9) (hc : CM X S μ A cr ci cb n ty V U ni nu us) (hn : ni < ci) (hl : kyA μ k a o ln l) (hin : k = 9 → ¬ inM A a) (hu : k = 9 → us + l.length ≤ cb) (v2 : k ≠ 9 → lng v) (hv : ∀ t ∈ V r j, lng t.1) :
    ∃ s : Nat, s < 24 * cr ∧ (s : Int) < μ A 8 ∧ μ (msA A 5) r + j = s ∧ R0 (ab_run wc (d + 5) 411 0 [(2, 1), (2, A), (0, s), (2, (200000 + k)), (1, v), (3, 0), (2, a), (0, o), (0, ln), (3, 0), (3, 0), (3, 0)] [] μ) (fun x μ' => x = ni ∧ CM X S μ' A cr ci cb n ty (upV V r j (kTk k v l (V r j) ++ kyI k v l :: kDp k v l (V r j))) U (ni + 1) nu (kyU k us l) ∧ itm μ' A s (kTk k v l (V r j)).length = ni ∧ frM A μ μ') := sorry
end Hp
end
section
section Hp
variable {μ μ' μ'' : ab_M} {d : Nat} {A cr ci cb b : Nat} {S : SF} {N : NF} {n : Nat} {ty : Nat → Nat} {V : Nat → Nat → List It} {U : Nat → List Un} {ni nu us : Nat} {X : Rsv}
theorem cH.lt {base : Nat → Nat} {ch : Nat → Nat → List Nat} {own : Nat → Nat} {uch : Nat → List Nat} {uown : Nat → Nat} (h : cH S μ A cr ci cb n ty V U base ch own uch uown ni nu us) {r j i : Nat} (hr : r < n) (hj : j < fCt S (ty r)) (hi : i ∈ ch r j) : i < ni := sorry
theorem CM.to0 {X' : Rsv} {ni' us' : Nat} (h : CM X S μ A cr ci cb n ty V U ni nu us) (hi : ni ≤ ni') (hi2 : ni' ≤ ci) (hu : us ≤ us') (hu2 : us' ≤ cb) (a1 : μ' A 3 = μ A 3 ∧ μ' A 8 = μ A 8 ∧ μ' A 26 = μ A 26) (a2 : μ' A 33 = us') (a3 : μ' A 17 = ni')
    (f : ∀ f x, msO f ≠ 0 → f ≠ 10 → (itF f → x < ni ∧ X x = none) → (f = 32 → x < us) → μ' (msA A f) x = μ (msA A f) x)
    (hX : ∀ i q, X' i = some q → ((∃ q', X i = some q') ∨ ni ≤ i ∧ i < ni') ∧ cIt μ' A us' q.1 q.2.1 i q.2.2 ∧ μ' (msA A 22) i = -1) : CM X' S μ' A cr ci cb n ty V U ni' nu us' := sorry
theorem CM.to {X' : Rsv} {ni' us' : Nat} (h : CM X S μ A cr ci cb n ty V U ni nu us) (hi : ni ≤ ni') (hi2 : ni' ≤ ci) (hu : us ≤ us') (hu2 : us' ≤ cb) (a1 : ∀ i, i ≠ 33 → i ≠ 17 → μ' A i = μ A i) (a2 : μ' A 33 = us') (a3 : μ' A 17 = ni')
    (f : ∀ f x, msO f ≠ 0 → f ≠ 10 → (itF f → x < ni ∧ X x = none) → (f = 32 → x < us) → μ' (msA A f) x = μ (msA A f) x)
    (hX : ∀ i q, X' i = some q → ((∃ q', X i = some q') ∨ ni ≤ i ∧ i < ni') ∧ cIt μ' A us' q.1 q.2.1 i q.2.2 ∧ μ' (msA A 22) i = -1) : CM X' S μ' A cr ci cb n ty V U ni' nu us' := sorry
theorem CM.rg (h : CM X S μ A cr ci cb n ty V U ni nu us) {i : Nat} {q : Nat × Nat × It} (e : X i = some q) : i < ni ∧ cIt μ A us q.1 q.2.1 i q.2.2 ∧ μ (msA A 22) i = -1 := sorry
theorem CM.less {X' : Rsv} (h : CM X S μ A cr ci cb n ty V U ni nu us) (hX : ∀ i q, X' i = some q → X i = some q) : CM X' S μ A cr ci cb n ty V U ni nu us := sorry
theorem c_newItem (hm : isM A cr ci cb) (hc : CM X S μ A cr ci cb n ty V U ni nu us) (hn : ni < ci) : R0 (ab_run wc (d + 1) 616 0 [(2, A)] [] μ) (fun x μ' => x = ni ∧ CM (upL X ni (some (3, 0, itN 0))) S μ' A cr ci cb n ty V U (ni + 1) nu us ∧ frM A μ μ') := sorry
end Hp
end
section
section Hp
variable {μ μ' μ'' : ab_M} {d : Nat} {A cr ci cb b : Nat} {S : SF} {N : NF} {n : Nat} {ty : Nat → Nat} {V : Nat → Nat → List It} {U : Nat → List Un} {ni nu us : Nat} {X : Rsv}
theorem cH.slotR {base : Nat → Nat} {ch : Nat → Nat → List Nat} {own : Nat → Nat} {uch : Nat → List Nat} {uown : Nat → Nat} {r j it : Nat} {l : List It} {c : List Nat}
    (h : cH S μ A cr ci cb n ty V U base ch own uch uown ni nu us) (hr : r < n) (hj : j < fCt S (ty r)) (hc : cHc μ' A cr ci cb n (base n) ni nu us) (hs : cHs S μ' A us ni (ty r) j (base r + j) l c) (hn : ∀ i ∈ c, i ∈ ch r j ∨ i = it) (free : ∀ r' j', r' < n → j' < fCt S (ty r') → it ∉ ch r' j')
    (f1 : ∀ f, 4 ≤ f → f < 8 → ∀ i, μ' (msA A f) i = μ (msA A f) i) (f2 : ∀ f, slF f → ∀ i, i ≠ base r + j → i < base n → μ' (msA A f) i = μ (msA A f) i) (f3 : ∀ f, itF f → ∀ i, i < ni → i ∉ ch r j → i ≠ it → μ' (msA A f) i = μ (msA A f) i)
    (f4 : ∀ i, i < us → μ' (msA A 32) i = μ (msA A 32) i) (f5 : ∀ f, 27 ≤ f → f ≤ 31 → ∀ i, μ' (msA A f) i = μ (msA A f) i) :
    cH S μ' A cr ci cb n ty (upV V r j l) U base (upC ch r j c) (fun i => if i = it then base r + j else own i) uch uown ni nu us := sorry
theorem c_append {r j it : Nat} {t : It} (hm : isM A cr ci cb) (hr : r < n) (hj : j < fCt S (ty r)) (h1 : 2 ≤ S 11 (ty r) j) (hc : CM X S μ A cr ci cb n ty V U ni nu us) (hx : X it = some (fSo (S 12 (ty r) j), fKs (S 11 (ty r) j) (S 14 (ty r) j), t)) :
    ∃ s : Nat, s < 24 * cr ∧ (s : Int) < μ A 8 ∧ μ (msA A 5) r + j = s ∧ R3 (ab_run wc (d + 1) 611 0 [(2, A), (0, s), (0, it)] [] μ) (fun μ' => CM (upL X it none) S μ' A cr ci cb n ty (upV V r j (V r j ++ [t])) U ni nu us ∧ frM A μ μ') := sorry
end Hp
end
section
section Th
variable {μ : ab_M} {d : Nat} {S : SF} {m s k : Nat}
theorem tw_clear (hm : m < 16) (hs : s < 4) (hk : (k : Int) < S 0 0 0 ∧ S 2 k 0 = 1) (g0 : gh S m = 0) : R3 (ab_run wt (d + 1) 23 0 [(2, 7756), (0, m), (0, s), (0, k), (3, 0)] [] μ) (fun μ' => TM S μ' m s 1 (fun _ => true) (fun _ => k) (fun _ _ => []) (fun _ => []) (fun _ => 4600 * m) 1 0 ∧ TC S μ' m 1 (fun _ => true) (fun _ => k) (fun _ _ => []) (fun _ => []) ∧ ∀ a i, ¬ mine m a i → (a ≠ 7863 ∨ i ≠ m) → (a ≠ 7864 ∨ i ≠ m) → μ' a i = μ a i) := sorry
end Th
end
section
section Hp
variable {μ : ab_M} {d : Nat} {A cr ci cb : Nat} {S : SF} {n : Nat} {ty : Nat → Nat} {V : Nat → Nat → List It} {U : Nat → List Un} {ni nu us : Nat} {X : Rsv}
theorem c_emptyMany {r j : Nat} (hm : isM A cr ci cb) (hr : r < n) (hj : j < fCt S (ty r)) (h1 : 2 ≤ S 11 (ty r) j) (hc : CM X S μ A cr ci cb n ty V U ni nu us) :
    ∃ s : Nat, s < 24 * cr ∧ (s : Int) < μ A 8 ∧ μ (msA A 5) r + j = s ∧ R3 (ab_run wc (d + 1) 613 0 [(2, A), (0, s)] [] μ) (fun μ' => CM X S μ' A cr ci cb n ty (upV V r j []) U ni nu us ∧ frM A μ μ') := sorry
end Hp
end
section
section Nm
variable {μ μ' : ab_M} {d : Nat} {A b : Nat} {S : SF} {N : NF}
def nFd (f : Nat → List Int) (nm : List Int) : Nat → Nat → Int
  | 0, _ => -1
  | m + 1, i => if f i = nm then i else nFd f nm m (i + 1)
theorem nFd_rg {f : Nat → List Int} {nm : List Int} : ∀ (m i : Nat), nFd f nm m i = -1 ∨ ∃ j : Nat, nFd f nm m i = j ∧ i ≤ j ∧ j < i + m ∧ f j = nm := sorry
theorem cNm_same {a o la : Nat} {fr sz : Int} {l nm : List Int} (hb : isS b) (h : cNm μ b fr sz l) (h1 : l.length < 100000) (ha : wc_ar a = (4, la)) (ho : o + nm.length ≤ la) (hla : la < 100000) (hn : cBy μ a o nm) : (ab_run wc (d + 1) 420 0 [(2, ((inA b 2 : Nat))), (0, fr), (0, sz), (2, a), (0, o), (0, (nm.length)), (3, 0)] [] μ) = some ((0, if l = nm then 1 else 0), μ) := sorry
theorem c_fieldOfL {t a o la : Nat} {nm : List Int} (hb : isS b) (ok : scOK S N) (hc : cSc μ b S N) (ht : (t : Int) < S 0 0 0 ∧ S 2 t 0 = 1) (ha : wc_ar a = (4, la)) (ho : o + nm.length ≤ la) (hla : la < 100000) (hn : cBy μ a o nm) : ∀ (m i : Nat), i + m = fCt S t → (ab_run wc (d + 2) 685 3 [(2, b), (2, (tyA b t)), (2, a), (0, o), (0, (nm.length)), (0, i)] [] μ) = some ((0, nFd (N 1 t) nm m i), μ) := sorry
theorem c_fieldOf {t a o la : Nat} {nm : List Int} (hb : isS b) (ok : scOK S N) (hc : cSc μ b S N) (ht : (t : Int) < S 0 0 0 ∧ S 2 t 0 = 1) (ha : wc_ar a = (4, la)) (ho : o + nm.length ≤ la) (hla : la < 100000) (hn : cBy μ a o nm) : (ab_run wc (d + 2) 685 0 [(2, b), (2, (tyA b t)), (2, a), (0, o), (0, (nm.length)), (3, 0)] [] μ) = some ((0, nFd (N 1 t) nm (fCt S t) 0), μ) := sorry
theorem c_constantOfL {t a o la : Nat} {nm : List Int} (hb : isS b) (ok : scOK S N) (hc : cSc μ b S N) (ht : (t : Int) < S 0 0 0 ∧ S 2 t 0 = 0) (ha : wc_ar a = (4, la)) (ho : o + nm.length ≤ la) (hla : la < 100000) (hn : cBy μ a o nm) : ∀ (m i : Nat), i + m = (S 3 t 0).toNat → (ab_run wc (d + 2) 684 3 [(2, b), (2, (tyA b t)), (2, a), (0, o), (0, (nm.length)), (0, i)] [] μ) = some ((0, nFd (N 2 t) nm m i), μ) := sorry
theorem c_constantOf {t a o la : Nat} {nm : List Int} (hb : isS b) (ok : scOK S N) (hc : cSc μ b S N) (ht : (t : Int) < S 0 0 0 ∧ S 2 t 0 = 0) (ha : wc_ar a = (4, la)) (ho : o + nm.length ≤ la) (hla : la < 100000) (hn : cBy μ a o nm) : (ab_run wc (d + 2) 684 0 [(2, b), (2, (tyA b t)), (2, a), (0, o), (0, (nm.length)), (3, 0)] [] μ) = some ((0, nFd (N 2 t) nm (S 3 t 0).toNat 0), μ) := sorry
def nmT (nm : List Int) : Prop := nm.length ≤ 16 ∧ ∀ x ∈ nm, 0 < x ∧ x < 128
theorem tNm_eq {hi lo : Int} {l nm : List Int} (h : tNm hi lo l) (h1 : nmOK l) (h2 : nmT nm) : (hi = nmk nm 0 8 ∧ lo = nmk nm 8 8) ↔ l = nm := sorry
theorem tw_findFieldL {s t : Nat} {nm : List Int} (ts : TS μ s S N) (ht : (t : Int) < S 0 0 0 ∧ S 2 t 0 = 1) (hn : nmT nm) : ∀ (m i : Nat), i + m = fCt S t → (ab_run wt (d + 1) 64 3 [(2, 7756), (0, (((30 * s + t : Nat) : Int))), (1, (nmk nm 0 8)), (3, 0), (1, (nmk nm 8 8)), (3, 0), (0, i)] [] μ) = some ((0, if nFd (N 1 t) nm m i < 0 then -2 else nFd (N 1 t) nm m i), μ) := sorry
theorem tw_findField {s t : Nat} {nm : List Int} (ts : TS μ s S N) (ht : (t : Int) < S 0 0 0 ∧ S 2 t 0 = 1) (hn : nmT nm) : (ab_run wt (d + 1) 64 0 [(2, 7756), (0, (((30 * s + t : Nat) : Int))), (1, (nmk nm 0 8)), (3, 0), (1, (nmk nm 8 8)), (3, 0), (3, 0)] [] μ) = some ((0, if nFd (N 1 t) nm (fCt S t) 0 < 0 then -2 else nFd (N 1 t) nm (fCt S t) 0), μ) := sorry
theorem tw_findConstL {s t : Nat} {nm : List Int} (ts : TS μ s S N) (ht : (t : Int) < S 0 0 0 ∧ S 2 t 0 = 0) (hn : nmT nm) : ∀ (m i : Nat), i + m = (S 3 t 0).toNat → (ab_run wt (d + 1) 63 3 [(2, 7756), (0, (((30 * s + t : Nat) : Int))), (1, (nmk nm 0 8)), (3, 0), (1, (nmk nm 8 8)), (3, 0), (0, i)] [] μ) = some ((0, if nFd (N 2 t) nm m i < 0 then -2 else nFd (N 2 t) nm m i), μ) := sorry
theorem tw_findConstant {s t : Nat} {nm : List Int} (ts : TS μ s S N) (ht : (t : Int) < S 0 0 0 ∧ S 2 t 0 = 0) (hn : nmT nm) : (ab_run wt (d + 1) 63 0 [(2, 7756), (0, (((30 * s + t : Nat) : Int))), (1, (nmk nm 0 8)), (3, 0), (1, (nmk nm 8 8)), (3, 0), (3, 0)] [] μ) = some ((0, if nFd (N 2 t) nm (S 3 t 0).toNat 0 < 0 then -2 else nFd (N 2 t) nm (S 3 t 0).toNat 0), μ) := sorry
end Nm
end
section
section Lf
variable {T : Nat → Int} {n : Nat}
abbrev Tok := Nat × Nat × Nat × Int × List Int
theorem lxN_r : ∀ (m p : Nat), p + m = n → p ≤ lxN T n p ∧ lxN T n p ≤ n ∧ ∀ i, p ≤ i → i < lxN T n p → 0 < T i ∧ T i < 128 := sorry
theorem lxN_1 {p : Nat} (hp : p < n) (h : 97 ≤ T p ∧ T p ≤ 122 ∨ 65 ≤ T p ∧ T p ≤ 90 ∨ T p = 95) : p + 1 ≤ lxN T n p := sorry
theorem lxD_r : ∀ (m p : Nat) (v ok : Int), p + m = n → (∀ k, k < n → 0 ≤ T k ∧ T k < 256) → 0 ≤ v ∧ v < 9223372036854775808 ∨ ok ≠ 1 → (p ≤ (lxD T n p v ok).1 ∧ (lxD T n p v ok).1 ≤ n) ∧ ((lxD T n p v ok).2.2 = 1 → 0 ≤ (lxD T n p v ok).2.1 ∧ (lxD T n p v ok).2.1 < 9223372036854775808) := sorry
theorem lxD_1 {p : Nat} (hp : p < n) (hT : ∀ k, k < n → 0 ≤ T k ∧ T k < 256) (h : 48 ≤ T p ∧ T p ≤ 57) : p + 1 ≤ (lxD T n p 0 1).1 := sorry
theorem lxS_r (hT : ∀ k, k < n → 0 ≤ T k ∧ T k < 256) : ∀ (m p : Nat) (l : List Int) (q : Nat × List Int), p + m = n → lxS T n p l = some q → byt l → l.length ≤ 60 → byt q.2 ∧ q.2.length ≤ 60 ∧ p < q.1 ∧ q.1 ≤ n ∧ q.2.length + p < l.length + q.1 := sorry
theorem byt_nil : byt [] := sorry
theorem lx_ok {p : Nat} {k : Tok} (hT : ∀ k, k < n → 0 ≤ T k ∧ T k < 256) (hp : p ≤ n) (h : lx T n p = some k) :
    k.1 ≤ 5 ∧ p ≤ k.2.1 ∧ k.2.1 ≤ k.2.2.1 ∧ k.2.2.1 ≤ n ∧ (k.1 ≠ 0 → k.2.1 < k.2.2.1) ∧ (k.1 = 1 → nmT (slc T k.2.1 (k.2.2.1 - k.2.1))) ∧ (k.1 = 3 → 0 ≤ k.2.2.2.1 ∧ k.2.2.2.1 < 9223372036854775808) ∧ byt k.2.2.2.2 ∧ k.2.2.2.2.length ≤ 60 ∧ k.2.2.2.2.length + k.2.1 ≤ k.2.2.1 := sorry
end Lf
end
