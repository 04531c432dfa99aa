/-! ===== the reference: one object and its arrays; S: its fields by number, its arrays by their place ===== -/
abbrev SM : Type := (Nat → Int32) × (Nat → Nat → Int32) × (Nat → Nat → Int64) × Int64
def mfl (M : Nat) (S : SM) : List Value := [.int (S.1 0), .ref (M + 1), .ref (M + 2), .ref (M + 3), .ref (M + 4), .int (S.1 5), .ref (M + 5), .int (S.1 7), .int (S.1 8), .int (S.1 9), .int (S.1 10), .int (S.1 11), .int (S.1 12), .int (S.1 13), .ref (M + 6), .ref (M + 7), .ref (M + 8), .ref (M + 9), .int (S.1 18), .int (S.1 19), .int (S.1 20), .int (S.1 21), .int (S.1 22), .int (S.1 23), .int (S.1 24), .ref (M + 10), .ref (M + 11), .ref (M + 12), .ref (M + 13), .int (S.1 29), .int (S.1 30), .int (S.1 31), .int (S.1 32), .int (S.1 33), .ref (M + 14), .ref (M + 15), .ref (M + 16), .ref (M + 17), .ref (M + 18), .int (S.1 39), .int (S.1 40), .int (S.1 41), .long S.2.2.2, .ref (M + 19), .ref (M + 20), .ref (M + 21), .ref (M + 22)]
def mce (M : Nat) (S : SM) : AH := [.inr (10, mfl M S), .inl (0, 116, .inl (S.2.1 1)), .inl (0, 348, .inl (S.2.1 2)), .inl (4, 3, .inl (S.2.1 3)), .inl (1, 1200, .inl (S.2.1 4)), .inl (0, 5, .inl (S.2.1 5)), .inl (0, 116, .inl (S.2.1 6)), .inl (0, 180, .inl (S.2.1 7)), .inl (0, 60, .inl (S.2.1 8)), .inl (0, 60, .inl (S.2.1 9)), .inl (0, 60, .inl (S.2.1 10)), .inl (0, 60, .inl (S.2.1 11)), .inl (0, 120, .inl (S.2.1 12)), .inl (0, 120, .inl (S.2.1 13)), .inl (0, 1452, .inl (S.2.1 14)), .inl (0, 1452, .inl (S.2.1 15)), .inl (3, 169, .inr (.inl (S.2.2.1 16))), .inl (3, 169, .inr (.inl (S.2.2.1 17))), .inl (0, 60, .inl (S.2.1 18)), .inl (0, 4, .inl (S.2.1 19)), .inl (0, 4, .inl (S.2.1 20)), .inl (3, 240, .inr (.inl (S.2.2.1 21))), .inl (3, 60, .inr (.inl (S.2.2.1 22)))]
def mH (M : Nat) (pre : AH) (S : SM) (post : AH) : AH := pre ++ (mce M S ++ post)
def sF (k : Nat) (v : Int32) (S : SM) : SM := (upd S.1 k v, S.2)
def sA (j i : Nat) (v : Int32) (S : SM) : SM := (S.1, va_up S.2.1 j (upd (S.2.1 j) i v), S.2.2)
def sL (j i : Nat) (v : Int64) (S : SM) : SM := (S.1, S.2.1, va_up S.2.2.1 j (vp_updL (S.2.2.1 j) i v), S.2.2.2)
def sD (v : Int64) (S : SM) : SM := (S.1, S.2.1, S.2.2.1, v)
section MM
variable {M : Nat} {pre post : AH} {S : SM}
theorem mH_at (hm : pre.length = M) {j : Nat} {e : AE} (hj : j < 23) (he : (mce M S)[j]? = some e) : (mH M pre S post)[M + j]? = some e := by
  unfold mH
  rw [List.getElem?_append_right (by omega), hm, Nat.add_sub_cancel_left, List.getElem?_append_left (show j < 23 from hj)]
  exact he
theorem mH_set (hm : pre.length = M) {j : Nat} {e : AE} {S' : SM} (hj : j < 23) (he : (mce M S).set j e = mce M S') : (mH M pre S post).set (M + j) e = mH M pre S' post := by
  unfold mH
  rw [List.set_append_right _ _ (by omega), hm, Nat.add_sub_cancel_left, List.set_append_left _ _ (show j < 23 from hj), he]
theorem mg_0 (hm : pre.length = M) : (mH M pre S post)[M]? = some (.inr (10, mfl M S)) := mH_at hm (j := 0) (by decide) rfl
theorem mg_1 (hm : pre.length = M) : (mH M pre S post)[M + 1]? = some (.inl (0, 116, .inl (S.2.1 1))) := mH_at hm (by decide) rfl
theorem mg_2 (hm : pre.length = M) : (mH M pre S post)[M + 2]? = some (.inl (0, 348, .inl (S.2.1 2))) := mH_at hm (by decide) rfl
theorem mg_3 (hm : pre.length = M) : (mH M pre S post)[M + 3]? = some (.inl (4, 3, .inl (S.2.1 3))) := mH_at hm (by decide) rfl
theorem mg_4 (hm : pre.length = M) : (mH M pre S post)[M + 4]? = some (.inl (1, 1200, .inl (S.2.1 4))) := mH_at hm (by decide) rfl
theorem mg_5 (hm : pre.length = M) : (mH M pre S post)[M + 5]? = some (.inl (0, 5, .inl (S.2.1 5))) := mH_at hm (by decide) rfl
theorem mg_6 (hm : pre.length = M) : (mH M pre S post)[M + 6]? = some (.inl (0, 116, .inl (S.2.1 6))) := mH_at hm (by decide) rfl
theorem mg_7 (hm : pre.length = M) : (mH M pre S post)[M + 7]? = some (.inl (0, 180, .inl (S.2.1 7))) := mH_at hm (by decide) rfl
theorem mg_8 (hm : pre.length = M) : (mH M pre S post)[M + 8]? = some (.inl (0, 60, .inl (S.2.1 8))) := mH_at hm (by decide) rfl
theorem mg_9 (hm : pre.length = M) : (mH M pre S post)[M + 9]? = some (.inl (0, 60, .inl (S.2.1 9))) := mH_at hm (by decide) rfl
theorem mg_10 (hm : pre.length = M) : (mH M pre S post)[M + 10]? = some (.inl (0, 60, .inl (S.2.1 10))) := mH_at hm (by decide) rfl
theorem mg_11 (hm : pre.length = M) : (mH M pre S post)[M + 11]? = some (.inl (0, 60, .inl (S.2.1 11))) := mH_at hm (by decide) rfl
theorem mg_12 (hm : pre.length = M) : (mH M pre S post)[M + 12]? = some (.inl (0, 120, .inl (S.2.1 12))) := mH_at hm (by decide) rfl
theorem mg_13 (hm : pre.length = M) : (mH M pre S post)[M + 13]? = some (.inl (0, 120, .inl (S.2.1 13))) := mH_at hm (by decide) rfl
theorem mg_14 (hm : pre.length = M) : (mH M pre S post)[M + 14]? = some (.inl (0, 1452, .inl (S.2.1 14))) := mH_at hm (by decide) rfl
theorem mg_15 (hm : pre.length = M) : (mH M pre S post)[M + 15]? = some (.inl (0, 1452, .inl (S.2.1 15))) := mH_at hm (by decide) rfl
theorem mg_16 (hm : pre.length = M) : (mH M pre S post)[M + 16]? = some (.inl (3, 169, .inr (.inl (S.2.2.1 16)))) := mH_at hm (by decide) rfl
theorem mg_17 (hm : pre.length = M) : (mH M pre S post)[M + 17]? = some (.inl (3, 169, .inr (.inl (S.2.2.1 17)))) := mH_at hm (by decide) rfl
theorem mg_18 (hm : pre.length = M) : (mH M pre S post)[M + 18]? = some (.inl (0, 60, .inl (S.2.1 18))) := mH_at hm (by decide) rfl
theorem mg_19 (hm : pre.length = M) : (mH M pre S post)[M + 19]? = some (.inl (0, 4, .inl (S.2.1 19))) := mH_at hm (by decide) rfl
theorem mg_20 (hm : pre.length = M) : (mH M pre S post)[M + 20]? = some (.inl (0, 4, .inl (S.2.1 20))) := mH_at hm (by decide) rfl
theorem mg_21 (hm : pre.length = M) : (mH M pre S post)[M + 21]? = some (.inl (3, 240, .inr (.inl (S.2.2.1 21)))) := mH_at hm (by decide) rfl
theorem mg_22 (hm : pre.length = M) : (mH M pre S post)[M + 22]? = some (.inl (3, 60, .inr (.inl (S.2.2.1 22)))) := mH_at hm (by decide) rfl
theorem ms_F0 (hm : pre.length = M) {v : Int32} : (mH M pre S post).set M (.inr (10, (mfl M S).set 0 (.int v))) = mH M pre (sF 0 v S) post := mH_set hm (j := 0) (by decide) rfl
theorem ms_A1 (hm : pre.length = M) {i : Nat} {v : Int32} : (mH M pre S post).set (M + 1) (.inl (0, 116, .inl (upd (S.2.1 1) i v))) = mH M pre (sA 1 i v S) post := mH_set hm (by decide) rfl
theorem ms_A2 (hm : pre.length = M) {i : Nat} {v : Int32} : (mH M pre S post).set (M + 2) (.inl (0, 348, .inl (upd (S.2.1 2) i v))) = mH M pre (sA 2 i v S) post := mH_set hm (by decide) rfl
theorem ms_A3 (hm : pre.length = M) {i : Nat} {v : Int32} : (mH M pre S post).set (M + 3) (.inl (4, 3, .inl (upd (S.2.1 3) i v))) = mH M pre (sA 3 i v S) post := mH_set hm (by decide) rfl
theorem ms_A4 (hm : pre.length = M) {i : Nat} {v : Int32} : (mH M pre S post).set (M + 4) (.inl (1, 1200, .inl (upd (S.2.1 4) i v))) = mH M pre (sA 4 i v S) post := mH_set hm (by decide) rfl
theorem ms_F5 (hm : pre.length = M) {v : Int32} : (mH M pre S post).set M (.inr (10, (mfl M S).set 5 (.int v))) = mH M pre (sF 5 v S) post := mH_set hm (j := 0) (by decide) rfl
theorem ms_A5 (hm : pre.length = M) {i : Nat} {v : Int32} : (mH M pre S post).set (M + 5) (.inl (0, 5, .inl (upd (S.2.1 5) i v))) = mH M pre (sA 5 i v S) post := mH_set hm (by decide) rfl
theorem ms_F7 (hm : pre.length = M) {v : Int32} : (mH M pre S post).set M (.inr (10, (mfl M S).set 7 (.int v))) = mH M pre (sF 7 v S) post := mH_set hm (j := 0) (by decide) rfl
theorem ms_F8 (hm : pre.length = M) {v : Int32} : (mH M pre S post).set M (.inr (10, (mfl M S).set 8 (.int v))) = mH M pre (sF 8 v S) post := mH_set hm (j := 0) (by decide) rfl
theorem ms_F9 (hm : pre.length = M) {v : Int32} : (mH M pre S post).set M (.inr (10, (mfl M S).set 9 (.int v))) = mH M pre (sF 9 v S) post := mH_set hm (j := 0) (by decide) rfl
theorem ms_F10 (hm : pre.length = M) {v : Int32} : (mH M pre S post).set M (.inr (10, (mfl M S).set 10 (.int v))) = mH M pre (sF 10 v S) post := mH_set hm (j := 0) (by decide) rfl
theorem ms_F11 (hm : pre.length = M) {v : Int32} : (mH M pre S post).set M (.inr (10, (mfl M S).set 11 (.int v))) = mH M pre (sF 11 v S) post := mH_set hm (j := 0) (by decide) rfl
theorem ms_F12 (hm : pre.length = M) {v : Int32} : (mH M pre S post).set M (.inr (10, (mfl M S).set 12 (.int v))) = mH M pre (sF 12 v S) post := mH_set hm (j := 0) (by decide) rfl
theorem ms_F13 (hm : pre.length = M) {v : Int32} : (mH M pre S post).set M (.inr (10, (mfl M S).set 13 (.int v))) = mH M pre (sF 13 v S) post := mH_set hm (j := 0) (by decide) rfl
theorem ms_A6 (hm : pre.length = M) {i : Nat} {v : Int32} : (mH M pre S post).set (M + 6) (.inl (0, 116, .inl (upd (S.2.1 6) i v))) = mH M pre (sA 6 i v S) post := mH_set hm (by decide) rfl
theorem ms_A7 (hm : pre.length = M) {i : Nat} {v : Int32} : (mH M pre S post).set (M + 7) (.inl (0, 180, .inl (upd (S.2.1 7) i v))) = mH M pre (sA 7 i v S) post := mH_set hm (by decide) rfl
theorem ms_A8 (hm : pre.length = M) {i : Nat} {v : Int32} : (mH M pre S post).set (M + 8) (.inl (0, 60, .inl (upd (S.2.1 8) i v))) = mH M pre (sA 8 i v S) post := mH_set hm (by decide) rfl
theorem ms_A9 (hm : pre.length = M) {i : Nat} {v : Int32} : (mH M pre S post).set (M + 9) (.inl (0, 60, .inl (upd (S.2.1 9) i v))) = mH M pre (sA 9 i v S) post := mH_set hm (by decide) rfl
theorem ms_F18 (hm : pre.length = M) {v : Int32} : (mH M pre S post).set M (.inr (10, (mfl M S).set 18 (.int v))) = mH M pre (sF 18 v S) post := mH_set hm (j := 0) (by decide) rfl
theorem ms_F19 (hm : pre.length = M) {v : Int32} : (mH M pre S post).set M (.inr (10, (mfl M S).set 19 (.int v))) = mH M pre (sF 19 v S) post := mH_set hm (j := 0) (by decide) rfl
theorem ms_F20 (hm : pre.length = M) {v : Int32} : (mH M pre S post).set M (.inr (10, (mfl M S).set 20 (.int v))) = mH M pre (sF 20 v S) post := mH_set hm (j := 0) (by decide) rfl
theorem ms_F21 (hm : pre.length = M) {v : Int32} : (mH M pre S post).set M (.inr (10, (mfl M S).set 21 (.int v))) = mH M pre (sF 21 v S) post := mH_set hm (j := 0) (by decide) rfl
theorem ms_F22 (hm : pre.length = M) {v : Int32} : (mH M pre S post).set M (.inr (10, (mfl M S).set 22 (.int v))) = mH M pre (sF 22 v S) post := mH_set hm (j := 0) (by decide) rfl
theorem ms_F23 (hm : pre.length = M) {v : Int32} : (mH M pre S post).set M (.inr (10, (mfl M S).set 23 (.int v))) = mH M pre (sF 23 v S) post := mH_set hm (j := 0) (by decide) rfl
theorem ms_F24 (hm : pre.length = M) {v : Int32} : (mH M pre S post).set M (.inr (10, (mfl M S).set 24 (.int v))) = mH M pre (sF 24 v S) post := mH_set hm (j := 0) (by decide) rfl
theorem ms_A10 (hm : pre.length = M) {i : Nat} {v : Int32} : (mH M pre S post).set (M + 10) (.inl (0, 60, .inl (upd (S.2.1 10) i v))) = mH M pre (sA 10 i v S) post := mH_set hm (by decide) rfl
theorem ms_A11 (hm : pre.length = M) {i : Nat} {v : Int32} : (mH M pre S post).set (M + 11) (.inl (0, 60, .inl (upd (S.2.1 11) i v))) = mH M pre (sA 11 i v S) post := mH_set hm (by decide) rfl
theorem ms_A12 (hm : pre.length = M) {i : Nat} {v : Int32} : (mH M pre S post).set (M + 12) (.inl (0, 120, .inl (upd (S.2.1 12) i v))) = mH M pre (sA 12 i v S) post := mH_set hm (by decide) rfl
theorem ms_A13 (hm : pre.length = M) {i : Nat} {v : Int32} : (mH M pre S post).set (M + 13) (.inl (0, 120, .inl (upd (S.2.1 13) i v))) = mH M pre (sA 13 i v S) post := mH_set hm (by decide) rfl
theorem ms_F29 (hm : pre.length = M) {v : Int32} : (mH M pre S post).set M (.inr (10, (mfl M S).set 29 (.int v))) = mH M pre (sF 29 v S) post := mH_set hm (j := 0) (by decide) rfl
theorem ms_F30 (hm : pre.length = M) {v : Int32} : (mH M pre S post).set M (.inr (10, (mfl M S).set 30 (.int v))) = mH M pre (sF 30 v S) post := mH_set hm (j := 0) (by decide) rfl
theorem ms_F31 (hm : pre.length = M) {v : Int32} : (mH M pre S post).set M (.inr (10, (mfl M S).set 31 (.int v))) = mH M pre (sF 31 v S) post := mH_set hm (j := 0) (by decide) rfl
theorem ms_F32 (hm : pre.length = M) {v : Int32} : (mH M pre S post).set M (.inr (10, (mfl M S).set 32 (.int v))) = mH M pre (sF 32 v S) post := mH_set hm (j := 0) (by decide) rfl
theorem ms_F33 (hm : pre.length = M) {v : Int32} : (mH M pre S post).set M (.inr (10, (mfl M S).set 33 (.int v))) = mH M pre (sF 33 v S) post := mH_set hm (j := 0) (by decide) rfl
theorem ms_A14 (hm : pre.length = M) {i : Nat} {v : Int32} : (mH M pre S post).set (M + 14) (.inl (0, 1452, .inl (upd (S.2.1 14) i v))) = mH M pre (sA 14 i v S) post := mH_set hm (by decide) rfl
theorem ms_A15 (hm : pre.length = M) {i : Nat} {v : Int32} : (mH M pre S post).set (M + 15) (.inl (0, 1452, .inl (upd (S.2.1 15) i v))) = mH M pre (sA 15 i v S) post := mH_set hm (by decide) rfl
theorem ms_A16 (hm : pre.length = M) {i : Nat} {v : Int64} : (mH M pre S post).set (M + 16) (.inl (3, 169, .inr (.inl (vp_updL (S.2.2.1 16) i v)))) = mH M pre (sL 16 i v S) post := mH_set hm (by decide) rfl
theorem ms_A17 (hm : pre.length = M) {i : Nat} {v : Int64} : (mH M pre S post).set (M + 17) (.inl (3, 169, .inr (.inl (vp_updL (S.2.2.1 17) i v)))) = mH M pre (sL 17 i v S) post := mH_set hm (by decide) rfl
theorem ms_A18 (hm : pre.length = M) {i : Nat} {v : Int32} : (mH M pre S post).set (M + 18) (.inl (0, 60, .inl (upd (S.2.1 18) i v))) = mH M pre (sA 18 i v S) post := mH_set hm (by decide) rfl
theorem ms_F39 (hm : pre.length = M) {v : Int32} : (mH M pre S post).set M (.inr (10, (mfl M S).set 39 (.int v))) = mH M pre (sF 39 v S) post := mH_set hm (j := 0) (by decide) rfl
theorem ms_F40 (hm : pre.length = M) {v : Int32} : (mH M pre S post).set M (.inr (10, (mfl M S).set 40 (.int v))) = mH M pre (sF 40 v S) post := mH_set hm (j := 0) (by decide) rfl
theorem ms_F41 (hm : pre.length = M) {v : Int32} : (mH M pre S post).set M (.inr (10, (mfl M S).set 41 (.int v))) = mH M pre (sF 41 v S) post := mH_set hm (j := 0) (by decide) rfl
theorem ms_F42 (hm : pre.length = M) {v : Int64} : (mH M pre S post).set M (.inr (10, (mfl M S).set 42 (.long v))) = mH M pre (sD v S) post := mH_set hm (j := 0) (by decide) rfl
theorem ms_A19 (hm : pre.length = M) {i : Nat} {v : Int32} : (mH M pre S post).set (M + 19) (.inl (0, 4, .inl (upd (S.2.1 19) i v))) = mH M pre (sA 19 i v S) post := mH_set hm (by decide) rfl
theorem ms_A20 (hm : pre.length = M) {i : Nat} {v : Int32} : (mH M pre S post).set (M + 20) (.inl (0, 4, .inl (upd (S.2.1 20) i v))) = mH M pre (sA 20 i v S) post := mH_set hm (by decide) rfl
theorem ms_A21 (hm : pre.length = M) {i : Nat} {v : Int64} : (mH M pre S post).set (M + 21) (.inl (3, 240, .inr (.inl (vp_updL (S.2.2.1 21) i v)))) = mH M pre (sL 21 i v S) post := mH_set hm (by decide) rfl
theorem ms_A22 (hm : pre.length = M) {i : Nat} {v : Int64} : (mH M pre S post).set (M + 22) (.inl (3, 60, .inr (.inl (vp_updL (S.2.2.1 22) i v)))) = mH M pre (sL 22 i v S) post := mH_set hm (by decide) rfl
end MM
