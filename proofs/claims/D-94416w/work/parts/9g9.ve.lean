/-! THE LAW: rounds, 36 to 47 -/
section
variable {d n i : Nat} {h h1 h2 : xH} {P : sS} {f : rI}
theorem rd_36 (I : LI h P f n) (hi : i + 6 ≤ n) (hn : n ≤ 384) : ∃ h2 P2, E_ (d + 221) mL_law 1512 [.val (.ref 31), .val (.ref 64), .val (.ref 150), .val (.int (nI i))] [] h = E_ (d + 221) mL_law 1989 [.val (.ref 31), .val (.ref 64), .val (.ref 150), .val (.int (nI i))] [] h2 ∧ LI h2 P2 f n ∧ oC h2 ≤ oC h + 15000 ∧ oS h2 ≤ oS h + 60000 := by
  obtain ⟨i1, i2, W, i4, i5, i6⟩ := id I
  have hx : XG (d + 220) h mX0_lamp [.ref 64, .int (f (i + 1)), .int (f (i + 2)), .int (f (i + 3))] (q_lamp P ((f (i + 1))) ((f (i + 2))) ((f (i + 3)))) := nX0_lamp (d := d + 219) (x := (f (i + 1))) (y := (f (i + 2))) (z := (f (i + 3))) i1
  have hm : ∀ h1, MR h1 P → oI h1 156 = oI h 156 → ST3 h1 → MG (d + 220) h1 mX5_lamp [.ref 150, .int (f (i + 1)), .int (f (i + 2)), .int (f (i + 3))] (q_lamp P ((f (i + 1))) ((f (i + 2))) ((f (i + 3)))) := fun h1 M ew _ => by
    exact nX5_lamp (d := d + 219) (x := (f (i + 1))) (y := (f (i + 2))) (z := (f (i + 3))) M
  obtain ⟨h1, h2, e1, e2, J, c1, c2, t64, t150, t31, n31, f31⟩ := LI_go I hx hm (W_lamp W)
  obtain ⟨r, er⟩ := A_lamp (x := (f (i + 1))) (y := (f (i + 2))) (z := (f (i + 3))) (P := P)
  rw [er] at e1 e2
  have x1 : nI i + nI 1 = nI (i + 1) := nI_add _ _
  have x2 : nI i + nI 2 = nI (i + 2) := nI_add _ _
  have x3 : nI i + nI 3 = nI (i + 3) := nI_add _ _
  have x4 : nI i + nI 4 = nI (i + 4) := nI_add _ _
  have x5 : nI i + nI 5 = nI (i + 5) := nI_add _ _
  refine ⟨h2, _, ?_, J, c1, c2⟩
  simp (disch := first | exact i4 | exact t31 | exact t64 | exact t150 | exact xix_8 i5 (by omega) (by omega) | exact xix_8 n31 (by omega) (by omega) | first | assumption | exact nI_ne0 (by decide) (by decide) | exact zb_01 | exact Or.inl rfl | exact Or.inr rfl | with_unfolding_all exact id (by assumption) | with_unfolding_all exact id (xix_8 (by assumption) (by omega) (by omega)) | omega) only [wL_law_1512, wL_law_1513, wL_law_1514, wL_law_1515, wL_law_1516, wL_law_1517, wL_law_1518, wL_law_1519, wL_law_1520, wL_law_1521, wL_law_1522, wL_law_1523, wL_law_1524, wL_law_1525, wL_law_1526, wL_law_1527, wL_law_1528, wL_law_1531, wL_law_1532, wL_law_1533, wL_law_1534, wL_law_1535, wL_law_1536, wL_law_1537, wL_law_1538, wL_law_1539, wL_law_1540, wL_law_1541, wL_law_1542, wL_law_1543, wL_law_1544, wL_law_1545, wL_law_1546, wL_law_1547, wL_law_1550, wL_law_1553, wL_law_1554, if_true, if_false, ↓reduceIte, xpu_s, xpu_n, Option.bind_some, xk_i, xk_r, xk_0, xk_u, xk_l, xk_k, xk_q, rf_s, rf_n, q_e1, q_e2, Nat.zero_add, Nat.reduceEqDiff, Nat.reduceAdd, Nat.reduceMul, Nat.reduceSub, Nat.reduceLT, Nat.reduceLeDiff, Nat.reduceDiv, Nat.reduceMod, x1, x2, x3, x4, x5, nI_c, i6, f31, e1, e2, eq_self, not_true_eq_false, not_false_eq_true, and_self, and_true, true_and, and_false, false_and, or_true, true_or, or_false, false_or, decide_true, decide_false, zb_t, zb_f, zb_0, zb_1, eq_self]
theorem rd_37 (I : LI h P f n) (hi : i + 6 ≤ n) (hn : n ≤ 384) : ∃ h2 P2, E_ (d + 221) mL_law 1555 [.val (.ref 31), .val (.ref 64), .val (.ref 150), .val (.int (nI i))] [] h = E_ (d + 221) mL_law 1989 [.val (.ref 31), .val (.ref 64), .val (.ref 150), .val (.int (nI i))] [] h2 ∧ LI h2 P2 f n ∧ oC h2 ≤ oC h + 15000 ∧ oS h2 ≤ oS h + 60000 := by
  obtain ⟨i1, i2, W, i4, i5, i6⟩ := id I
  have hx : XG (d + 220) h mX0_pay [.ref 64, .int (f (i + 1)), .int (f (i + 2)), .int (f (i + 3)), .int (f (i + 4))] (q_pay P ((f (i + 1))) ((f (i + 2))) ((f (i + 3))) ((f (i + 4)))) := nX0_pay (d := d + 219) (a := (f (i + 1))) (b := (f (i + 2))) (c := (f (i + 3))) (x := (f (i + 4))) i1 W
  have hm : ∀ h1, MR h1 P → oI h1 156 = oI h 156 → ST3 h1 → MG (d + 220) h1 mX5_pay [.ref 150, .int (f (i + 1)), .int (f (i + 2)), .int (f (i + 3)), .int (f (i + 4))] (q_pay P ((f (i + 1))) ((f (i + 2))) ((f (i + 3))) ((f (i + 4)))) := fun h1 M ew _ => by
    exact nX5_pay (d := d + 219) (a := (f (i + 1))) (b := (f (i + 2))) (c := (f (i + 3))) (x := (f (i + 4))) M
  obtain ⟨h1, h2, e1, e2, J, c1, c2, t64, t150, t31, n31, f31⟩ := LI_go I hx hm (WF_pay W)
  obtain ⟨r, er⟩ := A_pay (a := (f (i + 1))) (b := (f (i + 2))) (c := (f (i + 3))) (x := (f (i + 4))) (P := P)
  rw [er] at e1 e2
  have x1 : nI i + nI 1 = nI (i + 1) := nI_add _ _
  have x2 : nI i + nI 2 = nI (i + 2) := nI_add _ _
  have x3 : nI i + nI 3 = nI (i + 3) := nI_add _ _
  have x4 : nI i + nI 4 = nI (i + 4) := nI_add _ _
  have x5 : nI i + nI 5 = nI (i + 5) := nI_add _ _
  refine ⟨h2, _, ?_, J, c1, c2⟩
  simp (disch := first | exact i4 | exact t31 | exact t64 | exact t150 | exact xix_8 i5 (by omega) (by omega) | exact xix_8 n31 (by omega) (by omega) | first | assumption | exact nI_ne0 (by decide) (by decide) | exact zb_01 | exact Or.inl rfl | exact Or.inr rfl | with_unfolding_all exact id (by assumption) | with_unfolding_all exact id (xix_8 (by assumption) (by omega) (by omega)) | omega) only [wL_law_1555, wL_law_1556, wL_law_1557, wL_law_1558, wL_law_1559, wL_law_1560, wL_law_1561, wL_law_1562, wL_law_1563, wL_law_1564, wL_law_1565, wL_law_1566, wL_law_1567, wL_law_1568, wL_law_1569, wL_law_1570, wL_law_1571, wL_law_1572, wL_law_1573, wL_law_1574, wL_law_1575, wL_law_1576, wL_law_1579, wL_law_1580, wL_law_1581, wL_law_1582, wL_law_1583, wL_law_1584, wL_law_1585, wL_law_1586, wL_law_1587, wL_law_1588, wL_law_1589, wL_law_1590, wL_law_1591, wL_law_1592, wL_law_1593, wL_law_1594, wL_law_1595, wL_law_1596, wL_law_1597, wL_law_1598, wL_law_1599, wL_law_1600, wL_law_1603, wL_law_1606, wL_law_1607, if_true, if_false, ↓reduceIte, xpu_s, xpu_n, Option.bind_some, xk_i, xk_r, xk_0, xk_u, xk_l, xk_k, xk_q, rf_s, rf_n, q_e1, q_e2, Nat.zero_add, Nat.reduceEqDiff, Nat.reduceAdd, Nat.reduceMul, Nat.reduceSub, Nat.reduceLT, Nat.reduceLeDiff, Nat.reduceDiv, Nat.reduceMod, x1, x2, x3, x4, x5, nI_c, i6, f31, e1, e2, eq_self, not_true_eq_false, not_false_eq_true, and_self, and_true, true_and, and_false, false_and, or_true, true_or, or_false, false_or, decide_true, decide_false, zb_t, zb_f, zb_0, zb_1, eq_self]
theorem rd_38 (I : LI h P f n) (hi : i + 6 ≤ n) (hn : n ≤ 384) : ∃ h2 P2, E_ (d + 221) mL_law 1608 [.val (.ref 31), .val (.ref 64), .val (.ref 150), .val (.int (nI i))] [] h = E_ (d + 221) mL_law 1989 [.val (.ref 31), .val (.ref 64), .val (.ref 150), .val (.int (nI i))] [] h2 ∧ LI h2 P2 f n ∧ oC h2 ≤ oC h + 15000 ∧ oS h2 ≤ oS h + 60000 := by
  obtain ⟨i1, i2, W, i4, i5, i6⟩ := id I
  have hx : XG (d + 220) h mX0_rests [.ref 64, .int (f (i + 1)), .int (f (i + 2)), .int (f (i + 3))] (q_rests P ((f (i + 1))) ((f (i + 2))) ((f (i + 3)))) := nX0_rests (d := d + 218) (x := (f (i + 1))) (y := (f (i + 2))) (z := (f (i + 3))) i1
  have hm : ∀ h1, MR h1 P → oI h1 156 = oI h 156 → ST3 h1 → MG (d + 220) h1 mX5_rests [.ref 150, .int (f (i + 1)), .int (f (i + 2)), .int (f (i + 3))] (q_rests P ((f (i + 1))) ((f (i + 2))) ((f (i + 3)))) := fun h1 M ew _ => by
    exact nX5_rests (d := d + 218) (x := (f (i + 1))) (y := (f (i + 2))) (z := (f (i + 3))) M W
  obtain ⟨h1, h2, e1, e2, J, c1, c2, t64, t150, t31, n31, f31⟩ := LI_go I hx hm (W_rests W)
  obtain ⟨r, er⟩ := A_rests (x := (f (i + 1))) (y := (f (i + 2))) (z := (f (i + 3))) (P := P)
  rw [er] at e1 e2
  have x1 : nI i + nI 1 = nI (i + 1) := nI_add _ _
  have x2 : nI i + nI 2 = nI (i + 2) := nI_add _ _
  have x3 : nI i + nI 3 = nI (i + 3) := nI_add _ _
  have x4 : nI i + nI 4 = nI (i + 4) := nI_add _ _
  have x5 : nI i + nI 5 = nI (i + 5) := nI_add _ _
  refine ⟨h2, _, ?_, J, c1, c2⟩
  simp (disch := first | exact i4 | exact t31 | exact t64 | exact t150 | exact xix_8 i5 (by omega) (by omega) | exact xix_8 n31 (by omega) (by omega) | first | assumption | exact nI_ne0 (by decide) (by decide) | exact zb_01 | exact Or.inl rfl | exact Or.inr rfl | with_unfolding_all exact id (by assumption) | with_unfolding_all exact id (xix_8 (by assumption) (by omega) (by omega)) | omega) only [wL_law_1608, wL_law_1609, wL_law_1610, wL_law_1611, wL_law_1612, wL_law_1613, wL_law_1614, wL_law_1615, wL_law_1616, wL_law_1617, wL_law_1618, wL_law_1619, wL_law_1620, wL_law_1621, wL_law_1622, wL_law_1623, wL_law_1624, wL_law_1627, wL_law_1628, wL_law_1629, wL_law_1630, wL_law_1631, wL_law_1632, wL_law_1633, wL_law_1634, wL_law_1635, wL_law_1636, wL_law_1637, wL_law_1638, wL_law_1639, wL_law_1640, wL_law_1641, wL_law_1642, wL_law_1643, wL_law_1646, wL_law_1649, wL_law_1650, if_true, if_false, ↓reduceIte, xpu_s, xpu_n, Option.bind_some, xk_i, xk_r, xk_0, xk_u, xk_l, xk_k, xk_q, rf_s, rf_n, q_e1, q_e2, Nat.zero_add, Nat.reduceEqDiff, Nat.reduceAdd, Nat.reduceMul, Nat.reduceSub, Nat.reduceLT, Nat.reduceLeDiff, Nat.reduceDiv, Nat.reduceMod, x1, x2, x3, x4, x5, nI_c, i6, f31, e1, e2, eq_self, not_true_eq_false, not_false_eq_true, and_self, and_true, true_and, and_false, false_and, or_true, true_or, or_false, false_or, decide_true, decide_false, zb_t, zb_f, zb_0, zb_1, eq_self]
theorem rd_39 (I : LI h P f n) (hi : i + 6 ≤ n) (hn : n ≤ 384) : ∃ h2 P2, E_ (d + 221) mL_law 1651 [.val (.ref 31), .val (.ref 64), .val (.ref 150), .val (.int (nI i))] [] h = E_ (d + 221) mL_law 1989 [.val (.ref 31), .val (.ref 64), .val (.ref 150), .val (.int (nI i))] [] h2 ∧ LI h2 P2 f n ∧ oC h2 ≤ oC h + 15000 ∧ oS h2 ≤ oS h + 60000 := by
  obtain ⟨i1, i2, W, i4, i5, i6⟩ := id I
  have hx : XG (d + 220) h mX0_thanks [.ref 64, .int (f (i + 1)), .int (f (i + 2)), .int (f (i + 3)), .int (f (i + 4)), .int (f (i + 5))] (q_thanks P ((f (i + 1))) ((f (i + 2))) ((f (i + 3))) ((f (i + 4))) ((f (i + 5)))) := nX0_thanks (d := d + 219) (x := (f (i + 1))) (a := (f (i + 2))) (b := (f (i + 3))) (c := (f (i + 4))) (e := (f (i + 5))) i1
  have hm : ∀ h1, MR h1 P → oI h1 156 = oI h 156 → ST3 h1 → MG (d + 220) h1 mX5_thanks [.ref 150, .int (f (i + 1)), .int (f (i + 2)), .int (f (i + 3)), .int (f (i + 4)), .int (f (i + 5))] (q_thanks P ((f (i + 1))) ((f (i + 2))) ((f (i + 3))) ((f (i + 4))) ((f (i + 5)))) := fun h1 M ew _ => by
    exact nX5_thanks (d := d + 219) (x := (f (i + 1))) (a := (f (i + 2))) (b := (f (i + 3))) (c := (f (i + 4))) (e := (f (i + 5))) M
  obtain ⟨h1, h2, e1, e2, J, c1, c2, t64, t150, t31, n31, f31⟩ := LI_go I hx hm (W_thanks W)
  obtain ⟨r, er⟩ := A_thanks (x := (f (i + 1))) (a := (f (i + 2))) (b := (f (i + 3))) (c := (f (i + 4))) (e := (f (i + 5))) (P := P)
  rw [er] at e1 e2
  have x1 : nI i + nI 1 = nI (i + 1) := nI_add _ _
  have x2 : nI i + nI 2 = nI (i + 2) := nI_add _ _
  have x3 : nI i + nI 3 = nI (i + 3) := nI_add _ _
  have x4 : nI i + nI 4 = nI (i + 4) := nI_add _ _
  have x5 : nI i + nI 5 = nI (i + 5) := nI_add _ _
  refine ⟨h2, _, ?_, J, c1, c2⟩
  simp (disch := first | exact i4 | exact t31 | exact t64 | exact t150 | exact xix_8 i5 (by omega) (by omega) | exact xix_8 n31 (by omega) (by omega) | first | assumption | exact nI_ne0 (by decide) (by decide) | exact zb_01 | exact Or.inl rfl | exact Or.inr rfl | with_unfolding_all exact id (by assumption) | with_unfolding_all exact id (xix_8 (by assumption) (by omega) (by omega)) | omega) only [wL_law_1651, wL_law_1652, wL_law_1653, wL_law_1654, wL_law_1655, wL_law_1656, wL_law_1657, wL_law_1658, wL_law_1659, wL_law_1660, wL_law_1661, wL_law_1662, wL_law_1663, wL_law_1664, wL_law_1665, wL_law_1666, wL_law_1667, wL_law_1668, wL_law_1669, wL_law_1670, wL_law_1671, wL_law_1672, wL_law_1673, wL_law_1674, wL_law_1675, wL_law_1676, wL_law_1677, wL_law_1680, wL_law_1681, wL_law_1682, wL_law_1683, wL_law_1684, wL_law_1685, wL_law_1686, wL_law_1687, wL_law_1688, wL_law_1689, wL_law_1690, wL_law_1691, wL_law_1692, wL_law_1693, wL_law_1694, wL_law_1695, wL_law_1696, wL_law_1697, wL_law_1698, wL_law_1699, wL_law_1700, wL_law_1701, wL_law_1702, wL_law_1703, wL_law_1704, wL_law_1705, wL_law_1706, wL_law_1709, wL_law_1712, wL_law_1713, if_true, if_false, ↓reduceIte, xpu_s, xpu_n, Option.bind_some, xk_i, xk_r, xk_0, xk_u, xk_l, xk_k, xk_q, rf_s, rf_n, q_e1, q_e2, Nat.zero_add, Nat.reduceEqDiff, Nat.reduceAdd, Nat.reduceMul, Nat.reduceSub, Nat.reduceLT, Nat.reduceLeDiff, Nat.reduceDiv, Nat.reduceMod, x1, x2, x3, x4, x5, nI_c, i6, f31, e1, e2, eq_self, not_true_eq_false, not_false_eq_true, and_self, and_true, true_and, and_false, false_and, or_true, true_or, or_false, false_or, decide_true, decide_false, zb_t, zb_f, zb_0, zb_1, eq_self]
theorem rd_40 (I : LI h P f n) (hi : i + 6 ≤ n) (hn : n ≤ 384) : ∃ h2 P2, E_ (d + 221) mL_law 1714 [.val (.ref 31), .val (.ref 64), .val (.ref 150), .val (.int (nI i))] [] h = E_ (d + 221) mL_law 1989 [.val (.ref 31), .val (.ref 64), .val (.ref 150), .val (.int (nI i))] [] h2 ∧ LI h2 P2 f n ∧ oC h2 ≤ oC h + 15000 ∧ oS h2 ≤ oS h + 60000 := by
  obtain ⟨i1, i2, W, i4, i5, i6⟩ := id I
  have hx : XG (d + 220) h mX0_filled [.ref 64, .int (f (i + 1)), .int (f (i + 2))] (q_filled P ((f (i + 1))) ((f (i + 2)))) := nX0_filled (d := d + 217) (x := (f (i + 1))) (y := (f (i + 2))) i1 W
  have hm : ∀ h1, MR h1 P → oI h1 156 = oI h 156 → ST3 h1 → MG (d + 220) h1 mX5_filled [.ref 150, .int (f (i + 1)), .int (f (i + 2))] (q_filled P ((f (i + 1))) ((f (i + 2)))) := fun h1 M ew _ => by
    exact nX5_filled (d := d + 219) (x := (f (i + 1))) (y := (f (i + 2))) M W
  obtain ⟨h1, h2, e1, e2, J, c1, c2, t64, t150, t31, n31, f31⟩ := LI_go I hx hm (W_filled W)
  obtain ⟨r, er⟩ := A_filled (x := (f (i + 1))) (y := (f (i + 2))) (P := P)
  rw [er] at e1 e2
  have x1 : nI i + nI 1 = nI (i + 1) := nI_add _ _
  have x2 : nI i + nI 2 = nI (i + 2) := nI_add _ _
  have x3 : nI i + nI 3 = nI (i + 3) := nI_add _ _
  have x4 : nI i + nI 4 = nI (i + 4) := nI_add _ _
  have x5 : nI i + nI 5 = nI (i + 5) := nI_add _ _
  refine ⟨h2, _, ?_, J, c1, c2⟩
  simp (disch := first | exact i4 | exact t31 | exact t64 | exact t150 | exact xix_8 i5 (by omega) (by omega) | exact xix_8 n31 (by omega) (by omega) | first | assumption | exact nI_ne0 (by decide) (by decide) | exact zb_01 | exact Or.inl rfl | exact Or.inr rfl | with_unfolding_all exact id (by assumption) | with_unfolding_all exact id (xix_8 (by assumption) (by omega) (by omega)) | omega) only [wL_law_1714, wL_law_1715, wL_law_1716, wL_law_1717, wL_law_1718, wL_law_1719, wL_law_1720, wL_law_1721, wL_law_1722, wL_law_1723, wL_law_1724, wL_law_1725, wL_law_1728, wL_law_1729, wL_law_1730, wL_law_1731, wL_law_1732, wL_law_1733, wL_law_1734, wL_law_1735, wL_law_1736, wL_law_1737, wL_law_1738, wL_law_1739, wL_law_1742, wL_law_1745, wL_law_1746, if_true, if_false, ↓reduceIte, xpu_s, xpu_n, Option.bind_some, xk_i, xk_r, xk_0, xk_u, xk_l, xk_k, xk_q, rf_s, rf_n, q_e1, q_e2, Nat.zero_add, Nat.reduceEqDiff, Nat.reduceAdd, Nat.reduceMul, Nat.reduceSub, Nat.reduceLT, Nat.reduceLeDiff, Nat.reduceDiv, Nat.reduceMod, x1, x2, x3, x4, x5, nI_c, i6, f31, e1, e2, eq_self, not_true_eq_false, not_false_eq_true, and_self, and_true, true_and, and_false, false_and, or_true, true_or, or_false, false_or, decide_true, decide_false, zb_t, zb_f, zb_0, zb_1, eq_self]
theorem rd_41 (I : LI h P f n) (hi : i + 6 ≤ n) (hn : n ≤ 384) : ∃ h2 P2, E_ (d + 221) mL_law 1747 [.val (.ref 31), .val (.ref 64), .val (.ref 150), .val (.int (nI i))] [] h = E_ (d + 221) mL_law 1989 [.val (.ref 31), .val (.ref 64), .val (.ref 150), .val (.int (nI i))] [] h2 ∧ LI h2 P2 f n ∧ oC h2 ≤ oC h + 15000 ∧ oS h2 ≤ oS h + 60000 := by
  obtain ⟨i1, i2, W, i4, i5, i6⟩ := id I
  have hx : XG (d + 220) h mX0_slip [.ref 64, .int (f (i + 1)), .int (f (i + 2))] (q_slip P ((f (i + 1))) ((f (i + 2)))) := nX0_slip (d := d + 216) (x := (f (i + 1))) (y := (f (i + 2))) i1 W
  have hm : ∀ h1, MR h1 P → oI h1 156 = oI h 156 → ST3 h1 → MG (d + 220) h1 mX5_slip [.ref 150, .int (f (i + 1)), .int (f (i + 2))] (q_slip P ((f (i + 1))) ((f (i + 2)))) := fun h1 M ew _ => by
    exact nX5_slip (d := d + 218) (x := (f (i + 1))) (y := (f (i + 2))) M W
  obtain ⟨h1, h2, e1, e2, J, c1, c2, t64, t150, t31, n31, f31⟩ := LI_go I hx hm (W_slip W)
  obtain ⟨r, er⟩ := A_slip (x := (f (i + 1))) (y := (f (i + 2))) (P := P)
  rw [er] at e1 e2
  have x1 : nI i + nI 1 = nI (i + 1) := nI_add _ _
  have x2 : nI i + nI 2 = nI (i + 2) := nI_add _ _
  have x3 : nI i + nI 3 = nI (i + 3) := nI_add _ _
  have x4 : nI i + nI 4 = nI (i + 4) := nI_add _ _
  have x5 : nI i + nI 5 = nI (i + 5) := nI_add _ _
  refine ⟨h2, _, ?_, J, c1, c2⟩
  simp (disch := first | exact i4 | exact t31 | exact t64 | exact t150 | exact xix_8 i5 (by omega) (by omega) | exact xix_8 n31 (by omega) (by omega) | first | assumption | exact nI_ne0 (by decide) (by decide) | exact zb_01 | exact Or.inl rfl | exact Or.inr rfl | with_unfolding_all exact id (by assumption) | with_unfolding_all exact id (xix_8 (by assumption) (by omega) (by omega)) | omega) only [wL_law_1747, wL_law_1748, wL_law_1749, wL_law_1750, wL_law_1751, wL_law_1752, wL_law_1753, wL_law_1754, wL_law_1755, wL_law_1756, wL_law_1757, wL_law_1758, wL_law_1761, wL_law_1762, wL_law_1763, wL_law_1764, wL_law_1765, wL_law_1766, wL_law_1767, wL_law_1768, wL_law_1769, wL_law_1770, wL_law_1771, wL_law_1772, wL_law_1775, wL_law_1778, wL_law_1779, if_true, if_false, ↓reduceIte, xpu_s, xpu_n, Option.bind_some, xk_i, xk_r, xk_0, xk_u, xk_l, xk_k, xk_q, rf_s, rf_n, q_e1, q_e2, Nat.zero_add, Nat.reduceEqDiff, Nat.reduceAdd, Nat.reduceMul, Nat.reduceSub, Nat.reduceLT, Nat.reduceLeDiff, Nat.reduceDiv, Nat.reduceMod, x1, x2, x3, x4, x5, nI_c, i6, f31, e1, e2, eq_self, not_true_eq_false, not_false_eq_true, and_self, and_true, true_and, and_false, false_and, or_true, true_or, or_false, false_or, decide_true, decide_false, zb_t, zb_f, zb_0, zb_1, eq_self]
theorem rd_42 (I : LI h P f n) (hi : i + 6 ≤ n) (hn : n ≤ 384) : ∃ h2 P2, E_ (d + 221) mL_law 1780 [.val (.ref 31), .val (.ref 64), .val (.ref 150), .val (.int (nI i))] [] h = E_ (d + 221) mL_law 1989 [.val (.ref 31), .val (.ref 64), .val (.ref 150), .val (.int (nI i))] [] h2 ∧ LI h2 P2 f n ∧ oC h2 ≤ oC h + 15000 ∧ oS h2 ≤ oS h + 60000 := by
  obtain ⟨i1, i2, W, i4, i5, i6⟩ := id I
  have hx : XG (d + 220) h mX0_numbers [.ref 64, .int (f (i + 1)), .int (f (i + 2)), .int (f (i + 3))] (q_numbers P ((f (i + 1))) ((f (i + 2))) ((f (i + 3)))) := nX0_numbers (d := d + 218) (x := (f (i + 1))) (y := (f (i + 2))) (z := (f (i + 3))) i1
  have hm : ∀ h1, MR h1 P → oI h1 156 = oI h 156 → ST3 h1 → MG (d + 220) h1 mX5_numbers [.ref 150, .int (f (i + 1)), .int (f (i + 2)), .int (f (i + 3))] (q_numbers P ((f (i + 1))) ((f (i + 2))) ((f (i + 3)))) := fun h1 M ew _ => by
    exact nX5_numbers (d := d + 219) (x := (f (i + 1))) (y := (f (i + 2))) (z := (f (i + 3))) M
  obtain ⟨h1, h2, e1, e2, J, c1, c2, t64, t150, t31, n31, f31⟩ := LI_go I hx hm (WF_numbers W)
  obtain ⟨r, er⟩ := A_numbers (x := (f (i + 1))) (y := (f (i + 2))) (z := (f (i + 3))) (P := P)
  rw [er] at e1 e2
  have x1 : nI i + nI 1 = nI (i + 1) := nI_add _ _
  have x2 : nI i + nI 2 = nI (i + 2) := nI_add _ _
  have x3 : nI i + nI 3 = nI (i + 3) := nI_add _ _
  have x4 : nI i + nI 4 = nI (i + 4) := nI_add _ _
  have x5 : nI i + nI 5 = nI (i + 5) := nI_add _ _
  refine ⟨h2, _, ?_, J, c1, c2⟩
  simp (disch := first | exact i4 | exact t31 | exact t64 | exact t150 | exact xix_8 i5 (by omega) (by omega) | exact xix_8 n31 (by omega) (by omega) | first | assumption | exact nI_ne0 (by decide) (by decide) | exact zb_01 | exact Or.inl rfl | exact Or.inr rfl | with_unfolding_all exact id (by assumption) | with_unfolding_all exact id (xix_8 (by assumption) (by omega) (by omega)) | omega) only [wL_law_1780, wL_law_1781, wL_law_1782, wL_law_1783, wL_law_1784, wL_law_1785, wL_law_1786, wL_law_1787, wL_law_1788, wL_law_1789, wL_law_1790, wL_law_1791, wL_law_1792, wL_law_1793, wL_law_1794, wL_law_1795, wL_law_1796, wL_law_1799, wL_law_1800, wL_law_1801, wL_law_1802, wL_law_1803, wL_law_1804, wL_law_1805, wL_law_1806, wL_law_1807, wL_law_1808, wL_law_1809, wL_law_1810, wL_law_1811, wL_law_1812, wL_law_1813, wL_law_1814, wL_law_1815, wL_law_1818, wL_law_1821, wL_law_1822, if_true, if_false, ↓reduceIte, xpu_s, xpu_n, Option.bind_some, xk_i, xk_r, xk_0, xk_u, xk_l, xk_k, xk_q, rf_s, rf_n, q_e1, q_e2, Nat.zero_add, Nat.reduceEqDiff, Nat.reduceAdd, Nat.reduceMul, Nat.reduceSub, Nat.reduceLT, Nat.reduceLeDiff, Nat.reduceDiv, Nat.reduceMod, x1, x2, x3, x4, x5, nI_c, i6, f31, e1, e2, eq_self, not_true_eq_false, not_false_eq_true, and_self, and_true, true_and, and_false, false_and, or_true, true_or, or_false, false_or, decide_true, decide_false, zb_t, zb_f, zb_0, zb_1, eq_self]
theorem rd_43 (I : LI h P f n) (hi : i + 6 ≤ n) (hn : n ≤ 384) : ∃ h2 P2, E_ (d + 221) mL_law 1823 [.val (.ref 31), .val (.ref 64), .val (.ref 150), .val (.int (nI i))] [] h = E_ (d + 221) mL_law 1989 [.val (.ref 31), .val (.ref 64), .val (.ref 150), .val (.int (nI i))] [] h2 ∧ LI h2 P2 f n ∧ oC h2 ≤ oC h + 15000 ∧ oS h2 ≤ oS h + 60000 := by
  obtain ⟨i1, i2, W, i4, i5, i6⟩ := id I
  have hx : XGp 5 h [.ref 64, .int (f (i + 1)), .int (f (i + 2)), .long (((f (i + 3)).toInt64 <<< ((nI 32).toInt64 &&& 63)) ||| ((f (i + 4)).toInt64 &&& 4294967295))] (q_write P ((f (i + 1))) ((f (i + 2))) ((((f (i + 3)).toInt64 <<< ((nI 32).toInt64 &&& 63)) ||| ((f (i + 4)).toInt64 &&& 4294967295)))) := nX0_write (x := (f (i + 1))) (y := (f (i + 2))) (u := (((f (i + 3)).toInt64 <<< ((nI 32).toInt64 &&& 63)) ||| ((f (i + 4)).toInt64 &&& 4294967295))) i1
  have hm : ∀ h1, MR h1 P → oI h1 156 = oI h 156 → ST3 h1 → MG (d + 220) h1 mX5_write [.ref 150, .int (f (i + 1)), .int (f (i + 2)), .long (((f (i + 3)).toInt64 <<< ((nI 32).toInt64 &&& 63)) ||| ((f (i + 4)).toInt64 &&& 4294967295))] (q_write P ((f (i + 1))) ((f (i + 2))) ((((f (i + 3)).toInt64 <<< ((nI 32).toInt64 &&& 63)) ||| ((f (i + 4)).toInt64 &&& 4294967295)))) := fun h1 M ew _ => by
    exact nX5_write (d := d + 219) (x := (f (i + 1))) (y := (f (i + 2))) (u := (((f (i + 3)).toInt64 <<< ((nI 32).toInt64 &&& 63)) ||| ((f (i + 4)).toInt64 &&& 4294967295))) M W
  obtain ⟨h1, h2, e1, e2, J, c1, c2, t64, t150, t31, n31, f31⟩ := LI_goP I hx hm (WF_write W)
  obtain ⟨r, er⟩ := A_write (x := (f (i + 1))) (y := (f (i + 2))) (u := (((f (i + 3)).toInt64 <<< ((nI 32).toInt64 &&& 63)) ||| ((f (i + 4)).toInt64 &&& 4294967295))) (P := P)
  rw [er] at e1 e2
  have x1 : nI i + nI 1 = nI (i + 1) := nI_add _ _
  have x2 : nI i + nI 2 = nI (i + 2) := nI_add _ _
  have x3 : nI i + nI 3 = nI (i + 3) := nI_add _ _
  have x4 : nI i + nI 4 = nI (i + 4) := nI_add _ _
  have x5 : nI i + nI 5 = nI (i + 5) := nI_add _ _
  refine ⟨h2, _, ?_, J, c1, c2⟩
  simp (disch := first | exact i4 | exact t31 | exact t64 | exact t150 | exact xix_8 i5 (by omega) (by omega) | exact xix_8 n31 (by omega) (by omega) | first | assumption | exact nI_ne0 (by decide) (by decide) | exact zb_01 | exact Or.inl rfl | exact Or.inr rfl | with_unfolding_all exact id (by assumption) | with_unfolding_all exact id (xix_8 (by assumption) (by omega) (by omega)) | omega) only [wL_law_1823, wL_law_1824, wL_law_1825, wL_law_1826, wL_law_1827, wL_law_1828, wL_law_1829, wL_law_1830, wL_law_1831, wL_law_1832, wL_law_1833, wL_law_1834, wL_law_1835, wL_law_1836, wL_law_1837, wL_law_1838, wL_law_1839, wL_law_1840, wL_law_1842, wL_law_1843, wL_law_1844, wL_law_1845, wL_law_1846, wL_law_1847, wL_law_1848, wL_law_1849, wL_law_1852, wL_law_1853, wL_law_1854, wL_law_1857, wL_law_1858, wL_law_1859, wL_law_1860, wL_law_1861, wL_law_1862, wL_law_1863, wL_law_1864, wL_law_1865, wL_law_1866, wL_law_1867, wL_law_1868, wL_law_1869, wL_law_1870, wL_law_1871, wL_law_1872, wL_law_1873, wL_law_1874, wL_law_1876, wL_law_1877, wL_law_1878, wL_law_1879, wL_law_1880, wL_law_1881, wL_law_1882, wL_law_1883, wL_law_1886, wL_law_1887, wL_law_1888, wL_law_1891, wL_law_1892, wL_law_1895, wL_law_1896, if_true, if_false, ↓reduceIte, xpu_s, xpu_n, Option.bind_some, xk_i, xk_r, xk_0, xk_u, xk_l, xk_k, xk_q, rf_s, rf_n, q_e1, q_e2, Nat.zero_add, Nat.reduceEqDiff, Nat.reduceAdd, Nat.reduceMul, Nat.reduceSub, Nat.reduceLT, Nat.reduceLeDiff, Nat.reduceDiv, Nat.reduceMod, x1, x2, x3, x4, x5, nI_c, i6, f31, e1, e2, lg_cmp_s, nI_00, not_true_eq_false, not_false_eq_true, and_self, and_true, true_and, and_false, false_and, or_true, true_or, or_false, false_or, decide_true, decide_false, zb_t, zb_f, zb_0, zb_1, eq_self]
theorem rd_44 (I : LI h P f n) (hi : i + 6 ≤ n) (hn : n ≤ 384) : ∃ h2 P2, E_ (d + 221) mL_law 1897 [.val (.ref 31), .val (.ref 64), .val (.ref 150), .val (.int (nI i))] [] h = E_ (d + 221) mL_law 1989 [.val (.ref 31), .val (.ref 64), .val (.ref 150), .val (.int (nI i))] [] h2 ∧ LI h2 P2 f n ∧ oC h2 ≤ oC h + 15000 ∧ oS h2 ≤ oS h + 60000 := by
  obtain ⟨i1, i2, W, i4, i5, i6⟩ := id I
  have hx : XG (d + 220) h mX0_image [.ref 64, .int (f (i + 1))] (q_image P ((f (i + 1)))) := nX0_image (d := d + 208) (x := (f (i + 1))) i1 W
  have hm : ∀ h1, MR h1 P → oI h1 156 = oI h 156 → ST3 h1 → MG (d + 220) h1 mX5_image [.ref 150, .int (f (i + 1))] (q_image P ((f (i + 1)))) := fun h1 M ew _ => by
    exact nX5_image (d := d + 219) (x := (f (i + 1))) M
  obtain ⟨h1, h2, e1, e2, J, c1, c2, t64, t150, t31, n31, f31⟩ := LI_go I hx hm (WF_image W)
  obtain ⟨r, er⟩ := A_image (x := (f (i + 1))) (P := P)
  rw [er] at e1 e2
  have x1 : nI i + nI 1 = nI (i + 1) := nI_add _ _
  have x2 : nI i + nI 2 = nI (i + 2) := nI_add _ _
  have x3 : nI i + nI 3 = nI (i + 3) := nI_add _ _
  have x4 : nI i + nI 4 = nI (i + 4) := nI_add _ _
  have x5 : nI i + nI 5 = nI (i + 5) := nI_add _ _
  refine ⟨h2, _, ?_, J, c1, c2⟩
  simp (disch := first | exact i4 | exact t31 | exact t64 | exact t150 | exact xix_8 i5 (by omega) (by omega) | exact xix_8 n31 (by omega) (by omega) | first | assumption | exact nI_ne0 (by decide) (by decide) | exact zb_01 | exact Or.inl rfl | exact Or.inr rfl | with_unfolding_all exact id (by assumption) | with_unfolding_all exact id (xix_8 (by assumption) (by omega) (by omega)) | omega) only [wL_law_1897, wL_law_1898, wL_law_1899, wL_law_1900, wL_law_1901, wL_law_1902, wL_law_1903, wL_law_1906, wL_law_1907, wL_law_1908, wL_law_1909, wL_law_1910, wL_law_1911, wL_law_1912, wL_law_1915, wL_law_1918, wL_law_1919, if_true, if_false, ↓reduceIte, xpu_s, xpu_n, Option.bind_some, xk_i, xk_r, xk_0, xk_u, xk_l, xk_k, xk_q, rf_s, rf_n, q_e1, q_e2, Nat.zero_add, Nat.reduceEqDiff, Nat.reduceAdd, Nat.reduceMul, Nat.reduceSub, Nat.reduceLT, Nat.reduceLeDiff, Nat.reduceDiv, Nat.reduceMod, x1, x2, x3, x4, x5, nI_c, i6, f31, e1, e2, eq_self, not_true_eq_false, not_false_eq_true, and_self, and_true, true_and, and_false, false_and, or_true, true_or, or_false, false_or, decide_true, decide_false, zb_t, zb_f, zb_0, zb_1, eq_self]
theorem rd_45 (I : LI h P f n) (hi : i + 6 ≤ n) (hn : n ≤ 384) : ∃ h2 P2, E_ (d + 221) mL_law 1920 [.val (.ref 31), .val (.ref 64), .val (.ref 150), .val (.int (nI i))] [] h = E_ (d + 221) mL_law 1989 [.val (.ref 31), .val (.ref 64), .val (.ref 150), .val (.int (nI i))] [] h2 ∧ LI h2 P2 f n ∧ oC h2 ≤ oC h + 15000 ∧ oS h2 ≤ oS h + 60000 := by
  obtain ⟨i1, i2, W, i4, i5, i6⟩ := id I
  have hx : XG (d + 220) h mX0_restore [.ref 64, .int (f (i + 1))] (q_restore P ((f (i + 1)))) := nX0_restore (d := d + 208) (x := (f (i + 1))) i1 W
  have hm : ∀ h1, MR h1 P → oI h1 156 = oI h 156 → ST3 h1 → MG (d + 220) h1 mX5_restore [.ref 150, .int (f (i + 1))] (q_restore P ((f (i + 1)))) := fun h1 M ew _ => by
    exact nX5_restore (d := d + 219) (x := (f (i + 1))) M W
  obtain ⟨h1, h2, e1, e2, J, c1, c2, t64, t150, t31, n31, f31⟩ := LI_go I hx hm (WF_restore W)
  obtain ⟨r, er⟩ := A_restore (x := (f (i + 1))) (P := P)
  rw [er] at e1 e2
  have x1 : nI i + nI 1 = nI (i + 1) := nI_add _ _
  have x2 : nI i + nI 2 = nI (i + 2) := nI_add _ _
  have x3 : nI i + nI 3 = nI (i + 3) := nI_add _ _
  have x4 : nI i + nI 4 = nI (i + 4) := nI_add _ _
  have x5 : nI i + nI 5 = nI (i + 5) := nI_add _ _
  refine ⟨h2, _, ?_, J, c1, c2⟩
  simp (disch := first | exact i4 | exact t31 | exact t64 | exact t150 | exact xix_8 i5 (by omega) (by omega) | exact xix_8 n31 (by omega) (by omega) | first | assumption | exact nI_ne0 (by decide) (by decide) | exact zb_01 | exact Or.inl rfl | exact Or.inr rfl | with_unfolding_all exact id (by assumption) | with_unfolding_all exact id (xix_8 (by assumption) (by omega) (by omega)) | omega) only [wL_law_1920, wL_law_1921, wL_law_1922, wL_law_1923, wL_law_1924, wL_law_1925, wL_law_1926, wL_law_1929, wL_law_1930, wL_law_1931, wL_law_1932, wL_law_1933, wL_law_1934, wL_law_1935, wL_law_1938, wL_law_1941, wL_law_1942, if_true, if_false, ↓reduceIte, xpu_s, xpu_n, Option.bind_some, xk_i, xk_r, xk_0, xk_u, xk_l, xk_k, xk_q, rf_s, rf_n, q_e1, q_e2, Nat.zero_add, Nat.reduceEqDiff, Nat.reduceAdd, Nat.reduceMul, Nat.reduceSub, Nat.reduceLT, Nat.reduceLeDiff, Nat.reduceDiv, Nat.reduceMod, x1, x2, x3, x4, x5, nI_c, i6, f31, e1, e2, eq_self, not_true_eq_false, not_false_eq_true, and_self, and_true, true_and, and_false, false_and, or_true, true_or, or_false, false_or, decide_true, decide_false, zb_t, zb_f, zb_0, zb_1, eq_self]
theorem rd_46 (I : LI h P f n) (hi : i + 6 ≤ n) (hn : n ≤ 384) : ∃ h2 P2, E_ (d + 221) mL_law 1943 [.val (.ref 31), .val (.ref 64), .val (.ref 150), .val (.int (nI i))] [] h = E_ (d + 221) mL_law 1989 [.val (.ref 31), .val (.ref 64), .val (.ref 150), .val (.int (nI i))] [] h2 ∧ LI h2 P2 f n ∧ oC h2 ≤ oC h + 15000 ∧ oS h2 ≤ oS h + 60000 := by
  obtain ⟨i1, i2, W, i4, i5, i6⟩ := id I
  have hx : XG (d + 220) h mX0_status [.ref 64, .int (f (i + 1))] (q_status P ((f (i + 1)))) := nX0_status (d := d + 219) (x := (f (i + 1))) i1
  have hm : ∀ h1, MR h1 P → oI h1 156 = oI h 156 → ST3 h1 → MG (d + 220) h1 mX5_status [.ref 150, .int (f (i + 1))] (q_status P ((f (i + 1)))) := fun h1 M ew _ => by
    exact nX5_status (d := d + 219) (x := (f (i + 1))) M
  obtain ⟨h1, h2, e1, e2, J, c1, c2, t64, t150, t31, n31, f31⟩ := LI_go I hx hm (W_status W)
  obtain ⟨r, er⟩ := A_status (x := (f (i + 1))) (P := P)
  rw [er] at e1 e2
  have x1 : nI i + nI 1 = nI (i + 1) := nI_add _ _
  have x2 : nI i + nI 2 = nI (i + 2) := nI_add _ _
  have x3 : nI i + nI 3 = nI (i + 3) := nI_add _ _
  have x4 : nI i + nI 4 = nI (i + 4) := nI_add _ _
  have x5 : nI i + nI 5 = nI (i + 5) := nI_add _ _
  refine ⟨h2, _, ?_, J, c1, c2⟩
  simp (disch := first | exact i4 | exact t31 | exact t64 | exact t150 | exact xix_8 i5 (by omega) (by omega) | exact xix_8 n31 (by omega) (by omega) | first | assumption | exact nI_ne0 (by decide) (by decide) | exact zb_01 | exact Or.inl rfl | exact Or.inr rfl | with_unfolding_all exact id (by assumption) | with_unfolding_all exact id (xix_8 (by assumption) (by omega) (by omega)) | omega) only [wL_law_1943, wL_law_1944, wL_law_1945, wL_law_1946, wL_law_1947, wL_law_1948, wL_law_1949, wL_law_1952, wL_law_1953, wL_law_1954, wL_law_1955, wL_law_1956, wL_law_1957, wL_law_1958, wL_law_1961, wL_law_1964, wL_law_1965, if_true, if_false, ↓reduceIte, xpu_s, xpu_n, Option.bind_some, xk_i, xk_r, xk_0, xk_u, xk_l, xk_k, xk_q, rf_s, rf_n, q_e1, q_e2, Nat.zero_add, Nat.reduceEqDiff, Nat.reduceAdd, Nat.reduceMul, Nat.reduceSub, Nat.reduceLT, Nat.reduceLeDiff, Nat.reduceDiv, Nat.reduceMod, x1, x2, x3, x4, x5, nI_c, i6, f31, e1, e2, eq_self, not_true_eq_false, not_false_eq_true, and_self, and_true, true_and, and_false, false_and, or_true, true_or, or_false, false_or, decide_true, decide_false, zb_t, zb_f, zb_0, zb_1, eq_self]
theorem rd_47 (I : LI h P f n) (hi : i + 6 ≤ n) (hn : n ≤ 384) : ∃ h2 P2, E_ (d + 221) mL_law 1966 [.val (.ref 31), .val (.ref 64), .val (.ref 150), .val (.int (nI i))] [] h = E_ (d + 221) mL_law 1989 [.val (.ref 31), .val (.ref 64), .val (.ref 150), .val (.int (nI i))] [] h2 ∧ LI h2 P2 f n ∧ oC h2 ≤ oC h + 15000 ∧ oS h2 ≤ oS h + 60000 := by
  obtain ⟨i1, i2, W, i4, i5, i6⟩ := id I
  have hx : XG (d + 220) h mX0_count [.ref 64, .int (f (i + 1))] (q_count P ((f (i + 1)))) := nX0_count (d := d + 219) (x := (f (i + 1))) i1 W
  have hm : ∀ h1, MR h1 P → oI h1 156 = oI h 156 → ST3 h1 → MG (d + 220) h1 mX5_count [.ref 150, .int (f (i + 1))] (q_count P ((f (i + 1)))) := fun h1 M ew _ => by
    exact nX5_count (d := d + 219) (x := (f (i + 1))) M
  obtain ⟨h1, h2, e1, e2, J, c1, c2, t64, t150, t31, n31, f31⟩ := LI_go I hx hm (W_count W)
  obtain ⟨r, er⟩ := A_count (x := (f (i + 1))) (P := P)
  rw [er] at e1 e2
  have x1 : nI i + nI 1 = nI (i + 1) := nI_add _ _
  have x2 : nI i + nI 2 = nI (i + 2) := nI_add _ _
  have x3 : nI i + nI 3 = nI (i + 3) := nI_add _ _
  have x4 : nI i + nI 4 = nI (i + 4) := nI_add _ _
  have x5 : nI i + nI 5 = nI (i + 5) := nI_add _ _
  refine ⟨h2, _, ?_, J, c1, c2⟩
  simp (disch := first | exact i4 | exact t31 | exact t64 | exact t150 | exact xix_8 i5 (by omega) (by omega) | exact xix_8 n31 (by omega) (by omega) | first | assumption | exact nI_ne0 (by decide) (by decide) | exact zb_01 | exact Or.inl rfl | exact Or.inr rfl | with_unfolding_all exact id (by assumption) | with_unfolding_all exact id (xix_8 (by assumption) (by omega) (by omega)) | omega) only [wL_law_1966, wL_law_1967, wL_law_1968, wL_law_1969, wL_law_1970, wL_law_1971, wL_law_1972, wL_law_1975, wL_law_1976, wL_law_1977, wL_law_1978, wL_law_1979, wL_law_1980, wL_law_1981, wL_law_1984, wL_law_1987, wL_law_1988, if_true, if_false, ↓reduceIte, xpu_s, xpu_n, Option.bind_some, xk_i, xk_r, xk_0, xk_u, xk_l, xk_k, xk_q, rf_s, rf_n, q_e1, q_e2, Nat.zero_add, Nat.reduceEqDiff, Nat.reduceAdd, Nat.reduceMul, Nat.reduceSub, Nat.reduceLT, Nat.reduceLeDiff, Nat.reduceDiv, Nat.reduceMod, x1, x2, x3, x4, x5, nI_c, i6, f31, e1, e2, eq_self, not_true_eq_false, not_false_eq_true, and_self, and_true, true_and, and_false, false_and, or_true, true_or, or_false, false_or, decide_true, decide_false, zb_t, zb_f, zb_0, zb_1, eq_self]
end
