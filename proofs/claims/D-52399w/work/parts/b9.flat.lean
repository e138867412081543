section FLAT
set_option maxRecDepth 100000
def ixE : List Nat := [6, 8, 250, 253, 257, 262, 268, 275, 279, 291, 298, 308, 319, 328, 339, 351, 364, 378, 393, 409, 456, 473, 491, 511, 532, 554, 577, 601, 626, 652, 2400, 2401, 2402, 2403, 2404, 2405]
def ixM : List Nat := [1212, 1213, 1215, 1218, 1222, 1226, 1230, 1234, 1238, 1242, 1246, 1250, 1254, 1258, 1262, 1266, 1270, 1274, 1278, 1282, 1286, 1290, 1294, 1298, 1302, 1306, 1310, 1314, 1318, 1322, 1326, 1330, 1334, 1338, 1342, 1346, 1350, 1354, 1358, 1362, 1366, 1370, 1374, 1378, 1382, 1386, 1390, 1394, 1398, 1402, 1406, 1410, 1414, 1418, 1422, 1426, 1430, 1434, 1438]
def ixS : List Nat := [1697, 1709, 1718, 1729, 1738, 1747, 1760, 1770, 1779, 1790, 1801, 1813, 1826, 1838, 1849, 1859, 1869, 1878, 1887, 1898, 1908, 1918, 1927, 1936, 1945, 1955, 1965, 1975, 1983, 1991, 1999, 2007, 2020, 2030, 2042, 2053, 2063, 2077, 2088, 2098, 2110, 2122, 2135, 2149, 2162, 2174, 2185, 2196, 2206, 2216, 2228, 2239, 2250, 2260, 2271, 2282, 2294, 2305, 2318, 2332, 2347, 2361, 2374, 2386, 1442, 1448, 1457, 1476, 1487, 1495, 1502, 1512, 1543, 1551, 1559, 1566, 1573, 1580, 1587, 1594, 1601, 1608, 1620, 1630, 1639, 1646, 1653, 1661, 1671, 1680, 1689]
def ixV : List Nat := [2433, 2434, 2435, 2436, 2437, 2438, 2439, 2440, 2441, 2442, 2443, 2444, 2445, 2446, 2447, 2448, 2449, 2450, 2451, 2452, 2453, 2454, 2455, 2456, 2457, 2458, 2459, 2460, 2461, 2462, 2463, 2464, 2465, 2466, 2467, 2468, 2469, 2470, 2471, 2472, 2473, 2474, 2475, 2476, 2477, 2478, 2479, 2480, 2481, 2482, 2483, 2484, 2485, 2486, 2487, 2488, 2489, 2490, 2491, 2492, 2493, 2494, 2495, 2496, 2406, 2407, 2408, 2409, 2410, 2411, 2412, 2413, 2414, 2415, 2416, 2417, 2418, 2419, 2420, 2421, 2422, 2423, 2424, 2425, 2426, 2427, 2428, 2429, 2430, 2431, 2432]
def ixA : List Nat := [1699, 1711, 1720, 1731, 1740, 1749, 1762, 1772, 1781, 1792, 1803, 1815, 1828, 1840, 1851, 1861, 1871, 1880, 1889, 1900, 1910, 1920, 1929, 1938, 1947, 1957, 1967, 1977, 1985, 1993, 2001, 2009, 2022, 2032, 2044, 2055, 2065, 2079, 2090, 2100, 2112, 2124, 2137, 2151, 2164, 2176, 2187, 2198, 2208, 2218, 2230, 2241, 2252, 2262, 2273, 2284, 2296, 2307, 2320, 2334, 2349, 2363, 2376, 2388, 1444, 1450, 1459, 1478, 1489, 1497, 1504, 1514, 1545, 1553, 1561, 1568, 1575, 1582, 1589, 1596, 1603, 1610, 1622, 1632, 1641, 1648, 1655, 1663, 1673, 1682, 1691]
def ixL : List Nat := [1700, 1712, 1721, 1732, 1741, 1750, 1763, 1773, 1782, 1793, 1804, 1816, 1829, 1841, 1852, 1862, 1872, 1881, 1890, 1901, 1911, 1921, 1930, 1939, 1948, 1958, 1968, 1978, 1986, 1994, 2002, 2010, 2023, 2033, 2045, 2056, 2066, 2080, 2091, 2101, 2113, 2125, 2138, 2152, 2165, 2177, 2188, 2199, 2209, 2219, 2231, 2242, 2253, 2263, 2274, 2285, 2297, 2308, 2321, 2335, 2350, 2364, 2377, 2389, 1445, 1451, 1460, 1479, 1490, 1498, 1505, 1515, 1546, 1554, 1562, 1569, 1576, 1583, 1590, 1597, 1604, 1611, 1623, 1633, 1642, 1649, 1656, 1664, 1674, 1683, 1692]
def ixC : List Nat := [1698, 1710, 1719, 1730, 1739, 1748, 1761, 1771, 1780, 1791, 1802, 1814, 1827, 1839, 1850, 1860, 1870, 1879, 1888, 1899, 1909, 1919, 1928, 1937, 1946, 1956, 1966, 1976, 1984, 1992, 2000, 2008, 2021, 2031, 2043, 2054, 2064, 2078, 2089, 2099, 2111, 2123, 2136, 2150, 2163, 2175, 2186, 2197, 2207, 2217, 2229, 2240, 2251, 2261, 2272, 2283, 2295, 2306, 2319, 2333, 2348, 2362, 2375, 2387, 1443, 1449, 1458, 1477, 1488, 1496, 1503, 1513, 1544, 1552, 1560, 1567, 1574, 1581, 1588, 1595, 1602, 1609, 1621, 1631, 1640, 1647, 1654, 1662, 1672, 1681, 1690]
def ixH : List Nat := [1706, 1715, 1726, 1736, 1744, 1757, 1768, 1777, 1787, 1799, 1811, 1824, 1836, 1847, 1857, 1867, 1875, 1884, 1895, 1905, 1915, 1924, 1934, 1943, 1952, 1962, 1972, 1980, 1988, 1996, 2004, 2016, 2026, 2038, 2049, 2059, 2073, 2085, 2095, 2106, 2119, 2132, 2146, 2159, 2171, 2182, 2193, 2202, 2212, 2224, 2235, 2246, 2256, 2267, 2278, 2290, 2301, 2314, 2328, 2343, 2357, 2370, 2382, 2394, 1446, 1455, 1474, 1485, 1493, 1500, 1510, 1541, 1549, 1557, 1564, 1571, 1578, 1585, 1592, 1599, 1606, 1618, 1628, 1637, 1644, 1651, 1659, 1669, 1678, 1687, 1695]
def ixZ : List Nat := [1707, 1716, 1727, 1737, 1745, 1758, 1769, 1778, 1788, 1800, 1812, 1825, 1837, 1848, 1858, 1868, 1876, 1885, 1896, 1906, 1916, 1925, 1935, 1944, 1953, 1963, 1973, 1981, 1989, 1997, 2005, 2017, 2027, 2039, 2050, 2060, 2074, 2086, 2096, 2107, 2120, 2133, 2147, 2160, 2172, 2183, 2194, 2203, 2213, 2225, 2236, 2247, 2257, 2268, 2279, 2291, 2302, 2315, 2329, 2344, 2358, 2371, 2383, 2395, 1447, 1456, 1475, 1486, 1494, 1501, 1511, 1542, 1550, 1558, 1565, 1572, 1579, 1586, 1593, 1600, 1607, 1619, 1629, 1638, 1645, 1652, 1660, 1670, 1679, 1688, 1696]
def ixBy : List (List Nat) := [[1701, 1702, 1703, 1704, 1705], [1713, 1714], [1722, 1723, 1724, 1725], [1733, 1734, 1735], [1742, 1743], [1751, 1752, 1753, 1754, 1755, 1756], [1764, 1765, 1766, 1767], [1774, 1775, 1776], [1783, 1784, 1785, 1786], [1794, 1795, 1796, 1797, 1798], [1805, 1806, 1807, 1808, 1809, 1810], [1817, 1818, 1819, 1820, 1821, 1822, 1823], [1830, 1831, 1832, 1833, 1834, 1835], [1842, 1843, 1844, 1845, 1846], [1853, 1854, 1855, 1856], [1863, 1864, 1865, 1866], [1873, 1874], [1882, 1883], [1891, 1892, 1893, 1894], [1902, 1903, 1904], [1912, 1913, 1914], [1922, 1923], [1931, 1932, 1933], [1940, 1941, 1942], [1949, 1950, 1951], [1959, 1960, 1961], [1969, 1970, 1971], [1979], [1987], [1995], [2003], [2011, 2012, 2013, 2014, 2015], [2024, 2025], [2034, 2035, 2036, 2037], [2046, 2047, 2048], [2057, 2058], [2067, 2068, 2069, 2070, 2071, 2072], [2081, 2082, 2083, 2084], [2092, 2093, 2094], [2102, 2103, 2104, 2105], [2114, 2115, 2116, 2117, 2118], [2126, 2127, 2128, 2129, 2130, 2131], [2139, 2140, 2141, 2142, 2143, 2144, 2145], [2153, 2154, 2155, 2156, 2157, 2158], [2166, 2167, 2168, 2169, 2170], [2178, 2179, 2180, 2181], [2189, 2190, 2191, 2192], [2200, 2201], [2210, 2211], [2220, 2221, 2222, 2223], [2232, 2233, 2234], [2243, 2244, 2245], [2254, 2255], [2264, 2265, 2266], [2275, 2276, 2277], [2286, 2287, 2288, 2289], [2298, 2299, 2300], [2309, 2310, 2311, 2312, 2313], [2322, 2323, 2324, 2325, 2326, 2327], [2336, 2337, 2338, 2339, 2340, 2341, 2342], [2351, 2352, 2353, 2354, 2355, 2356], [2365, 2366, 2367, 2368, 2369], [2378, 2379, 2380, 2381], [2390, 2391, 2392, 2393], [], [1452, 1453, 1454], [1461, 1462, 1463, 1464, 1465, 1466, 1467, 1468, 1469, 1470, 1471, 1472, 1473], [1480, 1481, 1482, 1483, 1484], [1491, 1492], [1499], [1506, 1507, 1508, 1509], [1516, 1517, 1518, 1519, 1520, 1521, 1522, 1523, 1524, 1525, 1526, 1527, 1528, 1529, 1530, 1531, 1532, 1533, 1534, 1535, 1536, 1537, 1538, 1539, 1540], [1547, 1548], [1555, 1556], [1563], [1570], [1577], [1584], [1591], [1598], [1605], [1612, 1613, 1614, 1615, 1616, 1617], [1624, 1625, 1626, 1627], [1634, 1635, 1636], [1643], [1650], [1657, 1658], [1665, 1666, 1667, 1668], [1675, 1676, 1677], [1684, 1685, 1686], [1693, 1694]]
def exC : List String := ["[Ljava/lang/Object;", "RingDomino$Sort", "RingDomino$Sort", "RingDomino$Sort", "RingDomino$Sort", "RingDomino$Sort", "RingDomino$Sort", "java/lang/System$2", "jdk/internal/misc/Unsafe", "[LRingDomino$Craft;", "RingDomino$Craft$1", "[LRingDomino$What;", "RingDomino$Kind", "RingDomino$Sign$5", "RingDomino$Sign$6", "RingDomino$Sign$3", "RingDomino$Sign$4", "RingDomino$Sign$1", "RingDomino$Sign$2", "java/util/Optional", "RingDomino$Craft$2", "RingDomino$Craft$3", "RingDomino$What$1", "RingDomino$What$2", "RingDomino$What$3", "RingDomino$What$4", "RingDomino$What$5", "RingDomino$What$6", "RingDomino$What$7", "RingDomino$Kind", "[B", "[B", "[Ljava/lang/String;", "[Ljava/lang/String;", "[I", "[I"]
def caT : Term := .static "java/lang/Integer$IntegerCache" "cache" "[Ljava/lang/Integer;"
def trm (k : Nat) : Term := if k < 100 then (match cnL[k]? with | some q => .static q.1 q.2.1 q.2.2 | none => .null) else if k < 1000 then (match stL[k - 100]? with | some q => .string q.1 q.2 | none => .null) else if k < 2000 then .elem caT (.int (nI (k - 1000))) else if k < 3000 then (match stL[k - 2000]? with | some q => .field (.string q.1 q.2) "java/lang/String" "value" "[B" | none => .null) else .mirror (mrL.getD (k - 3000) "")
theorem fl_ex : ∀ k, k < 36 → flatL[ixE.getD k 0]? = some (Cond.exactly (trm k) (exC.getD k "")) := by decide +kernel
theorem fl_mi : ∀ k, k < 59 → flatL[ixM.getD k 0]? = some (Cond.isRef (trm (3000 + k))) := by decide +kernel
theorem fl_sx : ∀ k, k < 91 → flatL[ixS.getD k 0]? = some (Cond.exactly (trm (100 + k)) "java/lang/String") := by decide +kernel
theorem fl_sv : ∀ k, k < 91 → flatL[ixV.getD k 0]? = some (Cond.exactly (trm (2000 + k)) "[B") := by decide +kernel
theorem fl_sa : ∀ k, k < 91 → flatL[ixA.getD k 0]? = some (Cond.arrayOf (trm (2000 + k)) .byte) := by decide +kernel
theorem fl_sl : ∀ k, k < 91 → flatL[ixL.getD k 0]? = some (Cond.eq (.length (trm (2000 + k))) (.int (nI (tx k).length))) := by decide +kernel
theorem fl_sc : ∀ k, k < 91 → flatL[ixC.getD k 0]? = some (Cond.eq (.field (trm (100 + k)) "java/lang/String" "coder" "B") (.int 0)) := by decide +kernel
theorem fl_sh : ∀ k, k < 91 → flatL[ixH.getD k 0]? = some (Cond.eq (.field (trm (100 + k)) "java/lang/String" "hash" "I") (.int (stH.getD k (0, 0)).1)) := by decide +kernel
theorem fl_sz : ∀ k, k < 91 → flatL[ixZ.getD k 0]? = some (Cond.eq (.field (trm (100 + k)) "java/lang/String" "hashIsZero" "Z") (.int (stH.getD k (0, 0)).2)) := by decide +kernel
theorem fl_sb_0 : ∀ i, i < 7 → ∀ j, j < (tx (0 + i)).length → flatL[(ixBy.getD (0 + i) []).getD j 0]? = some (Cond.eq (.elem (trm (2000 + (0 + i))) (.int (nI j))) (.int (nI ((tx (0 + i)).getD j 0)))) := by decide +kernel
theorem fl_sb_7 : ∀ i, i < 7 → ∀ j, j < (tx (7 + i)).length → flatL[(ixBy.getD (7 + i) []).getD j 0]? = some (Cond.eq (.elem (trm (2000 + (7 + i))) (.int (nI j))) (.int (nI ((tx (7 + i)).getD j 0)))) := by decide +kernel
theorem fl_sb_14 : ∀ i, i < 7 → ∀ j, j < (tx (14 + i)).length → flatL[(ixBy.getD (14 + i) []).getD j 0]? = some (Cond.eq (.elem (trm (2000 + (14 + i))) (.int (nI j))) (.int (nI ((tx (14 + i)).getD j 0)))) := by decide +kernel
theorem fl_sb_21 : ∀ i, i < 7 → ∀ j, j < (tx (21 + i)).length → flatL[(ixBy.getD (21 + i) []).getD j 0]? = some (Cond.eq (.elem (trm (2000 + (21 + i))) (.int (nI j))) (.int (nI ((tx (21 + i)).getD j 0)))) := by decide +kernel
theorem fl_sb_28 : ∀ i, i < 7 → ∀ j, j < (tx (28 + i)).length → flatL[(ixBy.getD (28 + i) []).getD j 0]? = some (Cond.eq (.elem (trm (2000 + (28 + i))) (.int (nI j))) (.int (nI ((tx (28 + i)).getD j 0)))) := by decide +kernel
theorem fl_sb_35 : ∀ i, i < 7 → ∀ j, j < (tx (35 + i)).length → flatL[(ixBy.getD (35 + i) []).getD j 0]? = some (Cond.eq (.elem (trm (2000 + (35 + i))) (.int (nI j))) (.int (nI ((tx (35 + i)).getD j 0)))) := by decide +kernel
theorem fl_sb_42 : ∀ i, i < 7 → ∀ j, j < (tx (42 + i)).length → flatL[(ixBy.getD (42 + i) []).getD j 0]? = some (Cond.eq (.elem (trm (2000 + (42 + i))) (.int (nI j))) (.int (nI ((tx (42 + i)).getD j 0)))) := by decide +kernel
theorem fl_sb_49 : ∀ i, i < 7 → ∀ j, j < (tx (49 + i)).length → flatL[(ixBy.getD (49 + i) []).getD j 0]? = some (Cond.eq (.elem (trm (2000 + (49 + i))) (.int (nI j))) (.int (nI ((tx (49 + i)).getD j 0)))) := by decide +kernel
theorem fl_sb_56 : ∀ i, i < 7 → ∀ j, j < (tx (56 + i)).length → flatL[(ixBy.getD (56 + i) []).getD j 0]? = some (Cond.eq (.elem (trm (2000 + (56 + i))) (.int (nI j))) (.int (nI ((tx (56 + i)).getD j 0)))) := by decide +kernel
theorem fl_sb_63 : ∀ i, i < 7 → ∀ j, j < (tx (63 + i)).length → flatL[(ixBy.getD (63 + i) []).getD j 0]? = some (Cond.eq (.elem (trm (2000 + (63 + i))) (.int (nI j))) (.int (nI ((tx (63 + i)).getD j 0)))) := by decide +kernel
theorem fl_sb_70 : ∀ i, i < 7 → ∀ j, j < (tx (70 + i)).length → flatL[(ixBy.getD (70 + i) []).getD j 0]? = some (Cond.eq (.elem (trm (2000 + (70 + i))) (.int (nI j))) (.int (nI ((tx (70 + i)).getD j 0)))) := by decide +kernel
theorem fl_sb_77 : ∀ i, i < 7 → ∀ j, j < (tx (77 + i)).length → flatL[(ixBy.getD (77 + i) []).getD j 0]? = some (Cond.eq (.elem (trm (2000 + (77 + i))) (.int (nI j))) (.int (nI ((tx (77 + i)).getD j 0)))) := by decide +kernel
theorem fl_sb_84 : ∀ i, i < 7 → ∀ j, j < (tx (84 + i)).length → flatL[(ixBy.getD (84 + i) []).getD j 0]? = some (Cond.eq (.elem (trm (2000 + (84 + i))) (.int (nI j))) (.int (nI ((tx (84 + i)).getD j 0)))) := by decide +kernel
theorem fl_sb (k : Nat) (hk : k < 91) (j : Nat) (hj : j < (tx k).length) : flatL[(ixBy.getD k []).getD j 0]? = some (Cond.eq (.elem (trm (2000 + k)) (.int (nI j))) (.int (nI ((tx k).getD j 0)))) := by
  rcases Nat.lt_or_ge k 7 with h | h
  · obtain ⟨i, rfl⟩ : ∃ i, k = 0 + i := ⟨k - 0, by omega⟩
    exact fl_sb_0 i (by omega) j hj
  rcases Nat.lt_or_ge k 14 with h | h
  · obtain ⟨i, rfl⟩ : ∃ i, k = 7 + i := ⟨k - 7, by omega⟩
    exact fl_sb_7 i (by omega) j hj
  rcases Nat.lt_or_ge k 21 with h | h
  · obtain ⟨i, rfl⟩ : ∃ i, k = 14 + i := ⟨k - 14, by omega⟩
    exact fl_sb_14 i (by omega) j hj
  rcases Nat.lt_or_ge k 28 with h | h
  · obtain ⟨i, rfl⟩ : ∃ i, k = 21 + i := ⟨k - 21, by omega⟩
    exact fl_sb_21 i (by omega) j hj
  rcases Nat.lt_or_ge k 35 with h | h
  · obtain ⟨i, rfl⟩ : ∃ i, k = 28 + i := ⟨k - 28, by omega⟩
    exact fl_sb_28 i (by omega) j hj
  rcases Nat.lt_or_ge k 42 with h | h
  · obtain ⟨i, rfl⟩ : ∃ i, k = 35 + i := ⟨k - 35, by omega⟩
    exact fl_sb_35 i (by omega) j hj
  rcases Nat.lt_or_ge k 49 with h | h
  · obtain ⟨i, rfl⟩ : ∃ i, k = 42 + i := ⟨k - 42, by omega⟩
    exact fl_sb_42 i (by omega) j hj
  rcases Nat.lt_or_ge k 56 with h | h
  · obtain ⟨i, rfl⟩ : ∃ i, k = 49 + i := ⟨k - 49, by omega⟩
    exact fl_sb_49 i (by omega) j hj
  rcases Nat.lt_or_ge k 63 with h | h
  · obtain ⟨i, rfl⟩ : ∃ i, k = 56 + i := ⟨k - 56, by omega⟩
    exact fl_sb_56 i (by omega) j hj
  rcases Nat.lt_or_ge k 70 with h | h
  · obtain ⟨i, rfl⟩ : ∃ i, k = 63 + i := ⟨k - 63, by omega⟩
    exact fl_sb_63 i (by omega) j hj
  rcases Nat.lt_or_ge k 77 with h | h
  · obtain ⟨i, rfl⟩ : ∃ i, k = 70 + i := ⟨k - 70, by omega⟩
    exact fl_sb_70 i (by omega) j hj
  rcases Nat.lt_or_ge k 84 with h | h
  · obtain ⟨i, rfl⟩ : ∃ i, k = 77 + i := ⟨k - 77, by omega⟩
    exact fl_sb_77 i (by omega) j hj
  rcases Nat.lt_or_ge k 91 with h | h
  · obtain ⟨i, rfl⟩ : ∃ i, k = 84 + i := ⟨k - 84, by omega⟩
    exact fl_sb_84 i (by omega) j hj
  omega
theorem fl_r32 : ∀ j, j < 24 → flatL[[226, 227, 228, 229, 230, 231, 232, 233, 234, 235, 236, 237, 238, 239, 240, 241, 242, 243, 244, 245, 246, 247, 248, 249].getD j 0]? = some (Cond.eq (.elem (trm 32) (.int (nI j))) (trm ([100, 101, 102, 103, 104, 105, 106, 107, 108, 109, 110, 111, 112, 113, 114, 115, 116, 117, 118, 119, 120, 121, 122, 123].getD j 0))) := by decide +kernel
theorem fl_r33 : ∀ j, j < 24 → flatL[[414, 415, 416, 417, 418, 419, 420, 421, 422, 423, 424, 425, 426, 427, 428, 429, 430, 431, 432, 433, 434, 435, 436, 437].getD j 0]? = some (Cond.eq (.elem (trm 33) (.int (nI j))) (trm ([131, 132, 133, 134, 135, 136, 137, 138, 139, 140, 141, 142, 143, 144, 145, 146, 147, 148, 149, 150, 151, 152, 153, 154].getD j 0))) := by decide +kernel
theorem fl_r9 : ∀ j, j < 3 → flatL[[295, 296, 297].getD j 0]? = some (Cond.eq (.elem (trm 9) (.int (nI j))) (trm ([10, 20, 21].getD j 0))) := by decide +kernel
theorem fl_r11 : ∀ j, j < 7 → flatL[[312, 313, 314, 315, 316, 317, 318].getD j 0]? = some (Cond.eq (.elem (trm 11) (.int (nI j))) (trm ([22, 23, 24, 25, 26, 27, 28].getD j 0))) := by decide +kernel
theorem fl_r34 : ∀ j, j < 6 → flatL[[441, 442, 443, 444, 445, 446].getD j 0]? = some (Cond.eq (.elem (trm 34) (.int (nI j))) (.int (dxI j))) := by decide +kernel
theorem fl_r35 : ∀ j, j < 6 → flatL[[450, 451, 452, 453, 454, 455].getD j 0]? = some (Cond.eq (.elem (trm 35) (.int (nI j))) (.int (dyI j))) := by decide +kernel
theorem fl_n0 : flatL[7]? = some (Cond.eq (.length (trm 0)) (.int (nI 0))) := by decide +kernel
theorem fl_n9 : flatL[293]? = some (Cond.eq (.length (trm 9)) (.int (nI 3))) := by decide +kernel
theorem fl_n11 : flatL[310]? = some (Cond.eq (.length (trm 11)) (.int (nI 7))) := by decide +kernel
theorem fl_n32 : flatL[225]? = some (Cond.eq (.length (trm 32)) (.int (nI 24))) := by decide +kernel
theorem fl_n33 : flatL[413]? = some (Cond.eq (.length (trm 33)) (.int (nI 24))) := by decide +kernel
theorem fl_n34 : flatL[440]? = some (Cond.eq (.length (trm 34)) (.int (nI 6))) := by decide +kernel
theorem fl_n35 : flatL[449]? = some (Cond.eq (.length (trm 35)) (.int (nI 6))) := by decide +kernel
theorem fl_n36 : flatL[287]? = some (Cond.eq (.length (trm 36)) (.int (nI 256))) := by decide +kernel
theorem fl_t0 : flatL[5]? = some (Cond.arrayOf (trm 0) (Jvm.ClassFile.FieldType.object "java/lang/Object")) := by decide +kernel
theorem fl_t9 : flatL[292]? = some (Cond.arrayOf (trm 9) (Jvm.ClassFile.FieldType.object "RingDomino$Craft")) := by decide +kernel
theorem fl_t11 : flatL[309]? = some (Cond.arrayOf (trm 11) (Jvm.ClassFile.FieldType.object "RingDomino$What")) := by decide +kernel
theorem fl_t32 : flatL[224]? = some (Cond.arrayOf (trm 32) (Jvm.ClassFile.FieldType.object "java/lang/String")) := by decide +kernel
theorem fl_t33 : flatL[412]? = some (Cond.arrayOf (trm 33) (Jvm.ClassFile.FieldType.object "java/lang/String")) := by decide +kernel
theorem fl_t34 : flatL[439]? = some (Cond.arrayOf (trm 34) Jvm.ClassFile.FieldType.int) := by decide +kernel
theorem fl_t35 : flatL[448]? = some (Cond.arrayOf (trm 35) Jvm.ClassFile.FieldType.int) := by decide +kernel
theorem fl_t36 : flatL[286]? = some (Cond.arrayOf (trm 36) (Jvm.ClassFile.FieldType.object "java/lang/Integer")) := by decide +kernel
theorem fl_op : flatL[410]? = some (Cond.eq (.field (trm 19) "java/util/Optional" "value" "Ljava/lang/Object;") .null) := by decide +kernel
theorem fl_all : flatL[288]? = some (Cond.all caT (.and (.exactly (.elem caT (.index 0)) "java/lang/Integer") (.eq (.field (.elem caT (.index 0)) "java/lang/Integer" "value" "I") (.sub (.index 0) (.int 128))))) := by decide +kernel
end FLAT
