set_option maxRecDepth 100000
theorem F_md : gall (gFl "GraftTreesModel") f_md := ⟨Or.inl ⟨RX10, TX10, 156, 0, by decide, by decide, rfl, rfl, by decide, rfl, Or.inl q2112⟩,
  Or.inl ⟨RX10, TX10, 156, 2, by decide, by decide, rfl, rfl, by decide, rfl, Or.inl q2114⟩,
  Or.inl ⟨RX10, TX10, 156, 3, by decide, by decide, rfl, rfl, by decide, rfl, Or.inl q2115⟩,
  Or.inl ⟨RX10, TX10, 156, 4, by decide, by decide, rfl, rfl, by decide, rfl, Or.inl q2116⟩,
  Or.inl ⟨RX10, TX10, 156, 5, by decide, by decide, rfl, rfl, by decide, rfl, Or.inl q2117⟩,
  Or.inl ⟨RX10, TX10, 156, 6, by decide, by decide, rfl, rfl, by decide, rfl, Or.inl q2118⟩,
  Or.inl ⟨RX10, TX10, 156, 7, by decide, by decide, rfl, rfl, by decide, rfl, Or.inl q2119⟩,
  Or.inl ⟨RX10, TX10, 156, 8, by decide, by decide, rfl, rfl, by decide, rfl, Or.inl q2120⟩,
  Or.inl ⟨RX10, TX10, 156, 14, by decide, by decide, rfl, rfl, by decide, rfl, Or.inl q2126⟩,
  Or.inl ⟨RX10, TX10, 156, 17, by decide, by decide, rfl, rfl, by decide, rfl, Or.inl q2129⟩,
  Or.inl ⟨RX10, TX10, 156, 18, by decide, by decide, rfl, rfl, by decide, rfl, Or.inl q2130⟩,
  Or.inl ⟨RX10, TX10, 156, 19, by decide, by decide, rfl, rfl, by decide, rfl, Or.inl q2131⟩,
  Or.inl ⟨RX10, TX10, 156, 20, by decide, by decide, rfl, rfl, by decide, rfl, Or.inl q2132⟩,
  Or.inl ⟨RX10, TX10, 156, 21, by decide, by decide, rfl, rfl, by decide, rfl, Or.inl q2133⟩,
  Or.inl ⟨RX10, TX10, 156, 22, by decide, by decide, rfl, rfl, by decide, rfl, Or.inl q2134⟩,
  Or.inl ⟨RX10, TX10, 156, 32, by decide, by decide, rfl, rfl, by decide, rfl, Or.inl q2144⟩,
  Or.inl ⟨RX10, TX10, 156, 33, by decide, by decide, rfl, rfl, by decide, rfl, Or.inl q2145⟩,
  Or.inl ⟨RX10, TX10, 156, 35, by decide, by decide, rfl, rfl, by decide, rfl, Or.inl q2147⟩,
  Or.inl ⟨RX10, TX10, 156, 36, by decide, by decide, rfl, rfl, by decide, rfl, Or.inl q2148⟩,
  Or.inl ⟨RX10, TX10, 156, 37, by decide, by decide, rfl, rfl, by decide, rfl, Or.inl q2149⟩,
  Or.inl ⟨RX10, TX10, 156, 38, by decide, by decide, rfl, rfl, by decide, rfl, Or.inl q2150⟩,
  Or.inl ⟨RX10, TX10, 156, 39, by decide, by decide, rfl, rfl, by decide, rfl, Or.inl q2151⟩,
  Or.inl ⟨RX10, TX10, 156, 40, by decide, by decide, rfl, rfl, by decide, rfl, Or.inl q2152⟩,
  Or.inl ⟨RX10, TX10, 156, 41, by decide, by decide, rfl, rfl, by decide, rfl, Or.inl q2153⟩,
  Or.inl ⟨RX10, TX10, 156, 42, by decide, by decide, rfl, rfl, by decide, rfl, Or.inl q2154⟩,
  Or.inl ⟨RX10, TX10, 156, 45, by decide, by decide, rfl, rfl, by decide, rfl, Or.inl q2157⟩,
  Or.inl ⟨RX10, TX10, 156, 46, by decide, by decide, rfl, rfl, by decide, rfl, Or.inl q2158⟩,
  Or.inl ⟨RX10, TX10, 156, 47, by decide, by decide, rfl, rfl, by decide, rfl, Or.inl q2159⟩,
  Or.inl ⟨RX10, TX10, 156, 48, by decide, by decide, rfl, rfl, by decide, rfl, Or.inl q2160⟩,
  Or.inl ⟨RX10, TX10, 156, 49, by decide, by decide, rfl, rfl, by decide, rfl, Or.inl q2161⟩,
  Or.inl ⟨RX10, TX10, 156, 50, by decide, by decide, rfl, rfl, by decide, rfl, Or.inl q2162⟩,
  Or.inl ⟨RX10, TX10, 156, 51, by decide, by decide, rfl, rfl, by decide, rfl, Or.inl q2163⟩,
  Or.inl ⟨RX10, TX10, 156, 52, by decide, by decide, rfl, rfl, by decide, rfl, Or.inl q2164⟩,
  Or.inl ⟨RX10, TX10, 156, 53, by decide, by decide, rfl, rfl, by decide, rfl, Or.inl q2165⟩,
  Or.inl ⟨RX10, TX10, 156, 58, by decide, by decide, rfl, rfl, by decide, rfl, Or.inl q2170⟩,
  Or.inl ⟨RX10, TX10, 156, 59, by decide, by decide, rfl, rfl, by decide, rfl, Or.inl q2171⟩,
  Or.inl ⟨RX10, TX10, 156, 60, by decide, by decide, rfl, rfl, by decide, rfl, Or.inl q2172⟩,
  Or.inl ⟨RX10, TX10, 156, 61, by decide, by decide, rfl, rfl, by decide, rfl, Or.inl q2173⟩,
  Or.inl ⟨RX10, TX10, 156, 62, by decide, by decide, rfl, rfl, by decide, rfl, Or.inl q2174⟩,
  Or.inl ⟨RX10, TX10, 156, 63, by decide, by decide, rfl, rfl, by decide, rfl, Or.inl q2175⟩,
  Or.inl ⟨RX10, TX10, 156, 64, by decide, by decide, rfl, rfl, by decide, rfl, Or.inl q2176⟩,
  Or.inl ⟨RX10, TX10, 156, 65, by decide, by decide, rfl, rfl, by decide, rfl, Or.inl q2177⟩,
  Or.inl ⟨RX10, TX10, 156, 66, by decide, by decide, rfl, rfl, by decide, rfl, Or.inl q2178⟩,
  Or.inl ⟨RX10, TX10, 156, 67, by decide, by decide, rfl, rfl, by decide, rfl, Or.inl q2179⟩,
  Or.inl ⟨RX10, TX10, 156, 68, by decide, by decide, rfl, rfl, by decide, rfl, Or.inl q2180⟩,
  Or.inl ⟨RX10, TX10, 156, 69, by decide, by decide, rfl, rfl, by decide, rfl, Or.inl q2181⟩,
  Or.inl ⟨RX10, TX10, 156, 70, by decide, by decide, rfl, rfl, by decide, rfl, Or.inl q2182⟩,
  Or.inl ⟨RX10, TX10, 156, 71, by decide, by decide, rfl, rfl, by decide, rfl, Or.inl q2183⟩,
  Or.inl ⟨RX10, TX10, 156, 72, by decide, by decide, rfl, rfl, by decide, rfl, Or.inl q2184⟩,
  Or.inl ⟨RX10, TX10, 156, 73, by decide, by decide, rfl, rfl, by decide, rfl, Or.inl q2185⟩,
  Or.inl ⟨RX10, TX10, 156, 74, by decide, by decide, rfl, rfl, by decide, rfl, Or.inl q2186⟩,
  Or.inl ⟨RX10, TX10, 156, 75, by decide, by decide, rfl, rfl, by decide, rfl, Or.inl q2187⟩,
  Or.inl ⟨RX10, TX10, 156, 76, by decide, by decide, rfl, rfl, by decide, rfl, Or.inl q2188⟩,
  Or.inl ⟨RX10, TX10, 156, 77, by decide, by decide, rfl, rfl, by decide, rfl, Or.inl q2189⟩,
  Or.inl ⟨RX10, TX10, 156, 78, by decide, by decide, rfl, rfl, by decide, rfl, Or.inl q2190⟩,
  Or.inl ⟨RX10, TX10, 156, 79, by decide, by decide, rfl, rfl, by decide, rfl, Or.inl q2191⟩,
  Or.inl ⟨RX10, TX10, 156, 80, by decide, by decide, rfl, rfl, by decide, rfl, Or.inl q2192⟩,
  Or.inl ⟨RX10, TX10, 156, 81, by decide, by decide, rfl, rfl, by decide, rfl, Or.inl q2193⟩,
  Or.inl ⟨RX10, TX10, 156, 82, by decide, by decide, rfl, rfl, by decide, rfl, Or.inl q2194⟩,
  Or.inl ⟨RX10, TX10, 156, 83, by decide, by decide, rfl, rfl, by decide, rfl, Or.inl q2195⟩,
  Or.inl ⟨RX10, TX10, 156, 84, by decide, by decide, rfl, rfl, by decide, rfl, Or.inl q2196⟩,
  Or.inl ⟨RX10, TX10, 156, 85, by decide, by decide, rfl, rfl, by decide, rfl, Or.inl q2197⟩,
  Or.inl ⟨RX10, TX10, 156, 86, by decide, by decide, rfl, rfl, by decide, rfl, Or.inl q2198⟩,
  Or.inl ⟨RX10, TX10, 156, 87, by decide, by decide, rfl, rfl, by decide, rfl, Or.inl q2199⟩,
  Or.inl ⟨RX10, TX10, 156, 88, by decide, by decide, rfl, rfl, by decide, rfl, Or.inl q2200⟩,
  Or.inl ⟨RX10, TX10, 156, 90, by decide, by decide, rfl, rfl, by decide, rfl, Or.inl q2202⟩,
  Or.inl ⟨RX10, TX10, 156, 91, by decide, by decide, rfl, rfl, by decide, rfl, Or.inl q2203⟩,
  Or.inl ⟨RX10, TX10, 156, 96, by decide, by decide, rfl, rfl, by decide, rfl, Or.inl q2208⟩,
  Or.inl ⟨RX10, TX10, 156, 97, by decide, by decide, rfl, rfl, by decide, rfl, Or.inl q2209⟩,
  Or.inl ⟨RX10, TX10, 156, 98, by decide, by decide, rfl, rfl, by decide, rfl, Or.inl q2210⟩,
  Or.inl ⟨RX10, TX10, 156, 99, by decide, by decide, rfl, rfl, by decide, rfl, Or.inl q2211⟩,
  Or.inl ⟨RX10, TX10, 156, 100, by decide, by decide, rfl, rfl, by decide, rfl, Or.inl q2212⟩,
  Or.inl ⟨RX10, TX10, 156, 101, by decide, by decide, rfl, rfl, by decide, rfl, Or.inl q2213⟩,
  Or.inl ⟨RX10, TX10, 156, 102, by decide, by decide, rfl, rfl, by decide, rfl, Or.inl q2214⟩,
  Or.inl ⟨RX10, TX10, 156, 103, by decide, by decide, rfl, rfl, by decide, rfl, Or.inl q2215⟩,
  Or.inl ⟨RX10, TX10, 156, 105, by decide, by decide, rfl, rfl, by decide, rfl, Or.inl q2217⟩,
  Or.inl ⟨RX10, TX10, 156, 106, by decide, by decide, rfl, rfl, by decide, rfl, Or.inl q2218⟩,
  Or.inl ⟨RX10, TX10, 156, 107, by decide, by decide, rfl, rfl, by decide, rfl, Or.inl q2219⟩,
  Or.inl ⟨RX10, TX10, 156, 108, by decide, by decide, rfl, rfl, by decide, rfl, Or.inl q2220⟩,
  Or.inl ⟨RX10, TX10, 156, 109, by decide, by decide, rfl, rfl, by decide, rfl, Or.inl q2221⟩,
  Or.inl ⟨RX10, TX10, 156, 110, by decide, by decide, rfl, rfl, by decide, rfl, Or.inl q2222⟩,
  Or.inl ⟨RX10, TX10, 156, 111, by decide, by decide, rfl, rfl, by decide, rfl, Or.inl q2223⟩,
  Or.inl ⟨RX10, TX10, 156, 112, by decide, by decide, rfl, rfl, by decide, rfl, Or.inl q2224⟩,
  Or.inl ⟨RX10, TX10, 156, 113, by decide, by decide, rfl, rfl, by decide, rfl, Or.inl q2225⟩,
  Or.inl ⟨RX10, TX10, 156, 114, by decide, by decide, rfl, rfl, by decide, rfl, Or.inl q2226⟩,
  Or.inl ⟨RX10, TX10, 156, 115, by decide, by decide, rfl, rfl, by decide, rfl, Or.inl q2227⟩,
  Or.inl ⟨RX10, TX10, 156, 116, by decide, by decide, rfl, rfl, by decide, rfl, Or.inl q2228⟩,
  Or.inl ⟨RX10, TX10, 156, 129, by decide, by decide, rfl, rfl, by decide, rfl, Or.inl q2241⟩,
  Or.inl ⟨RX10, TX10, 156, 130, by decide, by decide, rfl, rfl, by decide, rfl, Or.inl q2242⟩,
  Or.inl ⟨RX10, TX10, 156, 131, by decide, by decide, rfl, rfl, by decide, rfl, Or.inl q2243⟩,
  Or.inl ⟨RX10, TX10, 156, 132, by decide, by decide, rfl, rfl, by decide, rfl, Or.inl q2244⟩,
  Or.inl ⟨RX10, TX10, 156, 133, by decide, by decide, rfl, rfl, by decide, rfl, Or.inl q2245⟩,
  Or.inl ⟨RX10, TX10, 156, 134, by decide, by decide, rfl, rfl, by decide, rfl, Or.inl q2246⟩,
  Or.inl ⟨RX10, TX10, 156, 135, by decide, by decide, rfl, rfl, by decide, rfl, Or.inl q2247⟩,
  Or.inl ⟨RX10, TX10, 156, 136, by decide, by decide, rfl, rfl, by decide, rfl, Or.inl q2248⟩,
  Or.inl ⟨RX10, TX10, 156, 137, by decide, by decide, rfl, rfl, by decide, rfl, Or.inl q2249⟩,
  Or.inl ⟨RX10, TX10, 156, 138, by decide, by decide, rfl, rfl, by decide, rfl, Or.inl q2250⟩,
  Or.inl ⟨RX10, TX10, 156, 139, by decide, by decide, rfl, rfl, by decide, rfl, Or.inl q2251⟩,
  Or.inl ⟨RX10, TX10, 156, 140, by decide, by decide, rfl, rfl, by decide, rfl, Or.inl q2252⟩,
  Or.inl ⟨RX10, TX10, 156, 141, by decide, by decide, rfl, rfl, by decide, rfl, Or.inl q2253⟩,
  Or.inl ⟨RX10, TX10, 156, 142, by decide, by decide, rfl, rfl, by decide, rfl, Or.inl q2254⟩,
  Or.inl ⟨RX10, TX10, 156, 143, by decide, by decide, rfl, rfl, by decide, rfl, Or.inl q2255⟩,
  Or.inl ⟨RX10, TX10, 156, 144, by decide, by decide, rfl, rfl, by decide, rfl, Or.inl q2256⟩,
  Or.inl ⟨RX10, TX10, 156, 145, by decide, by decide, rfl, rfl, by decide, rfl, Or.inl q2257⟩,
  Or.inl ⟨RX10, TX10, 156, 146, by decide, by decide, rfl, rfl, by decide, rfl, Or.inl q2258⟩,
  Or.inl ⟨RX10, TX10, 156, 147, by decide, by decide, rfl, rfl, by decide, rfl, Or.inl q2259⟩,
  Or.inl ⟨RX10, TX10, 156, 150, by decide, by decide, rfl, rfl, by decide, rfl, Or.inl q2262⟩,
  Or.inl ⟨RX10, TX10, 156, 152, by decide, by decide, rfl, rfl, by decide, rfl, Or.inl q2264⟩,
  Or.inl ⟨RX10, TX10, 156, 155, by decide, by decide, rfl, rfl, by decide, rfl, Or.inl q2267⟩,
  Or.inl ⟨RX10, TX10, 156, 1, by decide, by decide, rfl, rfl, by decide, rfl, Or.inl q2113⟩,
  Or.inl ⟨RX10, TX10, 156, 10, by decide, by decide, rfl, rfl, by decide, rfl, Or.inl q2122⟩,
  Or.inl ⟨RX10, TX10, 156, 9, by decide, by decide, rfl, rfl, by decide, rfl, Or.inl q2121⟩,
  Or.inl ⟨RX10, TX10, 156, 13, by decide, by decide, rfl, rfl, by decide, rfl, Or.inl q2125⟩,
  Or.inl ⟨RX10, TX10, 156, 12, by decide, by decide, rfl, rfl, by decide, rfl, Or.inl q2124⟩,
  Or.inl ⟨RX10, TX10, 156, 30, by decide, by decide, rfl, rfl, by decide, rfl, Or.inl q2142⟩,
  Or.inl ⟨RX10, TX10, 156, 31, by decide, by decide, rfl, rfl, by decide, rfl, Or.inl q2143⟩,
  Or.inl ⟨RX10, TX10, 156, 23, by decide, by decide, rfl, rfl, by decide, rfl, Or.inl q2135⟩,
  Or.inl ⟨RX10, TX10, 156, 24, by decide, by decide, rfl, rfl, by decide, rfl, Or.inl q2136⟩,
  Or.inl ⟨RX10, TX10, 156, 26, by decide, by decide, rfl, rfl, by decide, rfl, Or.inl q2138⟩,
  Or.inl ⟨RX10, TX10, 156, 25, by decide, by decide, rfl, rfl, by decide, rfl, Or.inl q2137⟩,
  Or.inl ⟨RX10, TX10, 156, 27, by decide, by decide, rfl, rfl, by decide, rfl, Or.inl q2139⟩,
  Or.inl ⟨RX10, TX10, 156, 43, by decide, by decide, rfl, rfl, by decide, rfl, Or.inl q2155⟩,
  Or.inl ⟨RX10, TX10, 156, 44, by decide, by decide, rfl, rfl, by decide, rfl, Or.inl q2156⟩,
  Or.inl ⟨RX10, TX10, 156, 28, by decide, by decide, rfl, rfl, by decide, rfl, Or.inl q2140⟩,
  Or.inl ⟨RX10, TX10, 156, 54, by decide, by decide, rfl, rfl, by decide, rfl, Or.inl q2166⟩,
  Or.inl ⟨RX10, TX10, 156, 29, by decide, by decide, rfl, rfl, by decide, rfl, Or.inl q2141⟩,
  Or.inl ⟨RX10, TX10, 156, 56, by decide, by decide, rfl, rfl, by decide, rfl, Or.inl q2168⟩,
  Or.inl ⟨RX10, TX10, 156, 15, by decide, by decide, rfl, rfl, by decide, rfl, Or.inl q2127⟩,
  Or.inl ⟨RX10, TX10, 156, 55, by decide, by decide, rfl, rfl, by decide, rfl, Or.inl q2167⟩,
  Or.inl ⟨RX10, TX10, 156, 57, by decide, by decide, rfl, rfl, by decide, rfl, Or.inl q2169⟩,
  Or.inl ⟨RX10, TX10, 156, 89, by decide, by decide, rfl, rfl, by decide, rfl, Or.inl q2201⟩,
  Or.inl ⟨RX10, TX10, 156, 94, by decide, by decide, rfl, rfl, by decide, rfl, Or.inl q2206⟩,
  Or.inl ⟨RX10, TX10, 156, 104, by decide, by decide, rfl, rfl, by decide, rfl, Or.inl q2216⟩,
  Or.inl ⟨RX10, TX10, 156, 92, by decide, by decide, rfl, rfl, by decide, rfl, Or.inl q2204⟩,
  Or.inl ⟨RX10, TX10, 156, 93, by decide, by decide, rfl, rfl, by decide, rfl, Or.inl q2205⟩,
  Or.inl ⟨RX10, TX10, 156, 121, by decide, by decide, rfl, rfl, by decide, rfl, Or.inl q2233⟩,
  Or.inl ⟨RX10, TX10, 156, 123, by decide, by decide, rfl, rfl, by decide, rfl, Or.inl q2235⟩,
  Or.inl ⟨RX10, TX10, 156, 128, by decide, by decide, rfl, rfl, by decide, rfl, Or.inl q2240⟩,
  Or.inl ⟨RX10, TX10, 156, 125, by decide, by decide, rfl, rfl, by decide, rfl, Or.inl q2237⟩,
  Or.inl ⟨RX10, TX10, 156, 124, by decide, by decide, rfl, rfl, by decide, rfl, Or.inl q2236⟩,
  Or.inl ⟨RX10, TX10, 156, 119, by decide, by decide, rfl, rfl, by decide, rfl, Or.inl q2231⟩,
  Or.inl ⟨RX10, TX10, 156, 120, by decide, by decide, rfl, rfl, by decide, rfl, Or.inl q2232⟩,
  Or.inl ⟨RX10, TX10, 156, 127, by decide, by decide, rfl, rfl, by decide, rfl, Or.inl q2239⟩,
  Or.inl ⟨RX10, TX10, 156, 118, by decide, by decide, rfl, rfl, by decide, rfl, Or.inl q2230⟩,
  Or.inl ⟨RX10, TX10, 156, 122, by decide, by decide, rfl, rfl, by decide, rfl, Or.inl q2234⟩,
  Or.inl ⟨RX10, TX10, 156, 148, by decide, by decide, rfl, rfl, by decide, rfl, Or.inl q2260⟩,
  Or.inl ⟨RX10, TX10, 156, 149, by decide, by decide, rfl, rfl, by decide, rfl, Or.inl q2261⟩,
  Or.inl ⟨RX10, TX10, 156, 117, by decide, by decide, rfl, rfl, by decide, rfl, Or.inl q2229⟩,
  Or.inl ⟨RX10, TX10, 156, 11, by decide, by decide, rfl, rfl, by decide, rfl, Or.inl q2123⟩,
  Or.inl ⟨RX10, TX10, 156, 16, by decide, by decide, rfl, rfl, by decide, rfl, Or.inl q2128⟩,
  Or.inl ⟨RX10, TX10, 156, 151, by decide, by decide, rfl, rfl, by decide, rfl, Or.inl q2263⟩,
  Or.inl ⟨RX10, TX10, 156, 95, by decide, by decide, rfl, rfl, by decide, rfl, Or.inl q2207⟩,
  Or.inl ⟨RX10, TX10, 156, 126, by decide, by decide, rfl, rfl, by decide, rfl, Or.inl q2238⟩,
  Or.inl ⟨RX10, TX10, 156, 153, by decide, by decide, rfl, rfl, by decide, rfl, Or.inl q2265⟩,
  Or.inl ⟨RX10, TX10, 156, 154, by decide, by decide, rfl, rfl, by decide, rfl, Or.inl q2266⟩,
  trivial⟩
theorem C_md : gall (gCst "GraftTreesModel") c_md := ⟨Or.inl ⟨60000, rfl, q2057, by unfold i32; omega⟩,
  Or.inr (Or.inl ⟨1000000000, rfl, q2779, by unfold i64; omega⟩),
  Or.inl ⟨1000000000, rfl, q2774, by unfold i32; omega⟩,
  Or.inl ⟨100000000, rfl, q2918, by unfold i32; omega⟩,
  Or.inr (Or.inl ⟨10, rfl, q2938, by unfold i64; omega⟩),
  Or.inr (Or.inl ⟨223372036854775808, rfl, q2780, by unfold i64; omega⟩),
  Or.inr (Or.inl ⟨1000000000000000000, rfl, q2785, by unfold i64; omega⟩),
  Or.inr (Or.inr ⟨14, "(){}[],;.=!<>+-*/&|", rfl, List.mem_of_getElem? (i := 14) rfl⟩),
  Or.inr (Or.inr ⟨13, "function if else while return break continue true false null ", rfl, List.mem_of_getElem? (i := 13) rfl⟩),
  Or.inr (Or.inr ⟨1, "print", rfl, List.mem_of_getElem? (i := 1) rfl⟩),
  Or.inr (Or.inr ⟨2, "new", rfl, List.mem_of_getElem? (i := 2) rfl⟩),
  Or.inr (Or.inr ⟨3, "kind", rfl, List.mem_of_getElem? (i := 3) rfl⟩),
  Or.inr (Or.inr ⟨4, "define", rfl, List.mem_of_getElem? (i := 4) rfl⟩),
  Or.inr (Or.inr ⟨5, "null", rfl, List.mem_of_getElem? (i := 5) rfl⟩),
  Or.inr (Or.inr ⟨6, "truth", rfl, List.mem_of_getElem? (i := 6) rfl⟩),
  Or.inr (Or.inr ⟨7, "number", rfl, List.mem_of_getElem? (i := 7) rfl⟩),
  Or.inr (Or.inr ⟨8, "string", rfl, List.mem_of_getElem? (i := 8) rfl⟩),
  Or.inr (Or.inr ⟨9, "function", rfl, List.mem_of_getElem? (i := 9) rfl⟩),
  Or.inr (Or.inr ⟨10, "object", rfl, List.mem_of_getElem? (i := 10) rfl⟩),
  Or.inr (Or.inr ⟨11, "true", rfl, List.mem_of_getElem? (i := 11) rfl⟩),
  Or.inr (Or.inr ⟨12, "false", rfl, List.mem_of_getElem? (i := 12) rfl⟩),
  Or.inl ⟨100000, rfl, q2919, by unfold i32; omega⟩,
  Or.inr (Or.inr ⟨0, "main", rfl, List.mem_of_getElem? (i := 15) rfl⟩),
  trivial⟩
theorem pn_md : plainName "GraftTreesModel" = true := by decide +kernel
theorem mh_md : "GraftTreesModel" ≠ "java/lang/invoke/MethodHandle" ∧ "GraftTreesModel" ≠ "java/lang/invoke/VarHandle" := by decide
theorem gm_md_hash {l : Launch} {Z : gZ} {m : Nat} (hi : gInj Z) (hm : m ≤ zN Z) (hs : gStop.toNat < zN Z) : gCee l Z yX10_hash (ws_ yX10_hash cX10_hash 5 (Option.some Jvm.ClassFile.FieldType.int)) 0 0 5 3 0 0 (.inl (fn_md_hash m)) :=
  gCee.st (k := 3) (gmetF hi ⟨plainFor_of_name pn_md, ok_md_hash, hm, Or.inr (Or.inr (Or.inl ⟨rfl, rfl⟩)), rfl, fun i c k t hg => gall_spec F_md i _ hg, gall_spec C_md, fun i k rc rt f hg => gall_spec (P := gCl l Z "GraftTreesModel" ⟨0, 0, 0, 0⟩) (xs := (e_md_hash m).2.2.2.1) trivial i _ hg⟩) q2079 q242 mh_md ds_28 q2078
theorem gm_md_find {l : Launch} {Z : gZ} {m : Nat} (hi : gInj Z) (hm : m ≤ zN Z) (hs : gStop.toNat < zN Z) : gCee l Z yX10_find (ws_ yX10_find cX10_find 8 (Option.some Jvm.ClassFile.FieldType.int)) 0 0 8 5 20 0 (.inl (fn_md_find m)) :=
  gCee.vi (k := 4) (by decide) (gmetF hi ⟨plainFor_of_name pn_md, ok_md_find, hm, Or.inr (Or.inr (Or.inl ⟨rfl, rfl⟩)), rfl, fun i c k t hg => gall_spec F_md i _ hg, gall_spec C_md, fun i k rc rt f hg => gall_spec (P := gCl l Z "GraftTreesModel" ⟨0, 0, 0, 0⟩) (xs := (e_md_find m).2.2.2.1) trivial i _ hg⟩) q2083 q242 mh_md ds_52 q2082 qs113
theorem gm_md_keep_2 {l : Launch} {Z : gZ} {m : Nat} (hi : gInj Z) (hm : m ≤ zN Z) (hs : gStop.toNat < zN Z) : gCee l Z yX10_keep_2 (ws_ yX10_keep_2 cX10_keep_2 7 (Option.some Jvm.ClassFile.FieldType.int)) 1 27 7 4 20 0 (.inl (fn_md_keep_2 m)) :=
  gCee.vi (k := 3) (by decide) (gmetF hi ⟨plainFor_of_name pn_md, ok_md_keep_2, hm, Or.inr (Or.inr (Or.inl ⟨rfl, rfl⟩)), rfl, fun i c k t hg => gall_spec F_md i _ hg, gall_spec C_md, fun i k rc rt f hg => gall_spec (P := gCl l Z "GraftTreesModel" ⟨1, 0, 0, 27⟩) (xs := (e_md_keep_2 m).2.2.2.1) ⟨(gm_md_hash hi hm hs).cal (by omega) (by omega) q2077,
    (gm_md_find hi hm hs).cal (by omega) (by omega) q2080,
    trivial⟩ i _ hg⟩) q2076 q242 mh_md ds_28 q2075 qs112
theorem gm_md_keep {l : Launch} {Z : gZ} {m : Nat} (hi : gInj Z) (hm : m ≤ zN Z) (hs : gStop.toNat < zN Z) : gCee l Z yX10_keep (ws_ yX10_keep cX10_keep 3 (Option.some Jvm.ClassFile.FieldType.int)) 4 85 3 2 20 0 (.inl (fn_md_keep m)) :=
  gCee.vi (k := 1) (by decide) (gmetF hi ⟨plainFor_of_name pn_md, ok_md_keep, hm, Or.inr (Or.inr (Or.inl ⟨rfl, rfl⟩)), rfl, fun i c k t hg => gall_spec F_md i _ hg, gall_spec C_md, fun i k rc rt f hg => gall_spec (P := gCl l Z "GraftTreesModel" ⟨4, 0, 0, 85⟩) (xs := (e_md_keep m).2.2.2.1) ⟨(gm_st_length hi (Nat.zero_le _)).cal (by omega) (by omega) q2071,
    (gm_st_charAt hi (Nat.zero_le _)).cal (by omega) (by omega) q2072,
    (gm_md_keep_2 hi hm hs).cal (by omega) (by omega) q2073,
    trivial⟩ i _ hg⟩) q2070 q242 mh_md ds_17 q2069 qs111
theorem gm_md_functionOf {l : Launch} {Z : gZ} {m : Nat} (hi : gInj Z) (hm : m ≤ zN Z) (hs : gStop.toNat < zN Z) : gCee l Z yX10_functionOf (ws_ yX10_functionOf cX10_functionOf 2 (Option.some Jvm.ClassFile.FieldType.int)) 0 0 2 2 20 0 (.inl (fn_md_functionOf m)) :=
  gCee.vi (k := 1) (by decide) (gmetF hi ⟨plainFor_of_name pn_md, ok_md_functionOf, hm, Or.inr (Or.inr (Or.inl ⟨rfl, rfl⟩)), rfl, fun i c k t hg => gall_spec F_md i _ hg, gall_spec C_md, fun i k rc rt f hg => gall_spec (P := gCl l Z "GraftTreesModel" ⟨0, 0, 0, 0⟩) (xs := (e_md_functionOf m).2.2.2.1) trivial i _ hg⟩) q2087 q242 mh_md ds_16 q2086 qs114
theorem gm_md_unit {l : Launch} {Z : gZ} {m : Nat} (hi : gInj Z) (hm : m ≤ zN Z) (hs : gStop.toNat < zN Z) : gCee l Z yX10_unit (ws_ yX10_unit cX10_unit 3 (Option.some Jvm.ClassFile.FieldType.int)) 0 0 3 3 20 0 (.inl (fn_md_unit m)) :=
  gCee.vi (k := 2) (by decide) (gmetF hi ⟨plainFor_of_name pn_md, ok_md_unit, hm, Or.inr (Or.inr (Or.inl ⟨rfl, rfl⟩)), rfl, fun i c k t hg => gall_spec F_md i _ hg, gall_spec C_md, fun i k rc rt f hg => gall_spec (P := gCl l Z "GraftTreesModel" ⟨0, 0, 0, 0⟩) (xs := (e_md_unit m).2.2.2.1) trivial i _ hg⟩) q2099 q242 mh_md ds_0 q2098 qs117
theorem gm_md_endCode {l : Launch} {Z : gZ} {m : Nat} (hi : gInj Z) (hm : m ≤ zN Z) (hs : gStop.toNat < zN Z) : gCee l Z yX10_endCode (ws_ yX10_endCode cX10_endCode 2 (Option.none : Option Jvm.ClassFile.FieldType)) 0 0 2 2 20 5 (.inl (fn_md_endCode m)) :=
  gCee.vi (k := 1) (by decide) (gmetF hi ⟨plainFor_of_name pn_md, ok_md_endCode, hm, Or.inr (Or.inr (Or.inr (Or.inr (Or.inr (Or.inr ⟨rfl, rfl⟩))))), rfl, fun i c k t hg => gall_spec F_md i _ hg, gall_spec C_md, fun i k rc rt f hg => gall_spec (P := gCl l Z "GraftTreesModel" ⟨0, 0, 0, 0⟩) (xs := (e_md_endCode m).2.2.2.1) trivial i _ hg⟩) q2103 q242 mh_md ds_19 q2102 qs118
theorem gm_md_endCodesOfFunction {l : Launch} {Z : gZ} {m : Nat} (hi : gInj Z) (hm : m ≤ zN Z) (hs : gStop.toNat < zN Z) : gCee l Z yX10_endCodesOfFunction (ws_ yX10_endCodesOfFunction cX10_endCodesOfFunction 8 (Option.none : Option Jvm.ClassFile.FieldType)) 1 22 8 2 20 5 (.inl (fn_md_endCodesOfFunction m)) :=
  gCee.vi (k := 1) (by decide) (gmetF hi ⟨plainFor_of_name pn_md, ok_md_endCodesOfFunction, hm, Or.inr (Or.inr (Or.inr (Or.inr (Or.inr (Or.inr ⟨rfl, rfl⟩))))), rfl, fun i c k t hg => gall_spec F_md i _ hg, gall_spec C_md, fun i k rc rt f hg => gall_spec (P := gCl l Z "GraftTreesModel" ⟨1, 0, 0, 22⟩) (xs := (e_md_endCodesOfFunction m).2.2.2.1) ⟨(gm_md_unit hi hm hs).cal (by omega) (by omega) q2096,
    (gm_md_endCode hi hm hs).cal (by omega) (by omega) q2100,
    trivial⟩ i _ hg⟩) q2095 q242 mh_md ds_19 q2094 qs116
theorem gm_md_rootComes {l : Launch} {Z : gZ} {m : Nat} (hi : gInj Z) (hm : m ≤ zN Z) (hs : gStop.toNat < zN Z) : gCee l Z yX10_rootComes (ws_ yX10_rootComes cX10_rootComes 4 (Option.none : Option Jvm.ClassFile.FieldType)) 2 49 4 2 20 5 (.inl (fn_md_rootComes m)) :=
  gCee.vi (k := 1) (by decide) (gmetF hi ⟨plainFor_of_name pn_md, ok_md_rootComes, hm, Or.inr (Or.inr (Or.inr (Or.inr (Or.inr (Or.inr ⟨rfl, rfl⟩))))), rfl, fun i c k t hg => gall_spec F_md i _ hg, gall_spec C_md, fun i k rc rt f hg => gall_spec (P := gCl l Z "GraftTreesModel" ⟨2, 0, 0, 49⟩) (xs := (e_md_rootComes m).2.2.2.1) ⟨(gm_md_endCodesOfFunction hi hm hs).cal (by omega) (by omega) q2092,
    trivial⟩ i _ hg⟩) q2091 q242 mh_md ds_19 q2090 qs115
theorem gm_md_houseBegins {l : Launch} {Z : gZ} {m : Nat} (hi : gInj Z) (hm : m ≤ zN Z) (hs : gStop.toNat < zN Z) : gCee l Z yX10_houseBegins (ws_ yX10_houseBegins cX10_houseBegins 2 (Option.none : Option Jvm.ClassFile.FieldType)) 5 107 2 1 20 5 (.inl (fn_md_houseBegins m)) :=
  gCee.vi (k := 0) (by decide) (gmetF hi ⟨plainFor_of_name pn_md, ok_md_houseBegins, hm, Or.inr (Or.inr (Or.inr (Or.inr (Or.inr (Or.inr ⟨rfl, rfl⟩))))), rfl, fun i c k t hg => gall_spec F_md i _ hg, gall_spec C_md, fun i k rc rt f hg => gall_spec (P := gCl l Z "GraftTreesModel" ⟨5, 0, 0, 107⟩) (xs := (e_md_houseBegins m).2.2.2.1) ⟨(gm_md_keep hi hm hs).cal (by omega) (by omega) q2067,
    (gm_md_functionOf hi hm hs).cal (by omega) (by omega) q2084,
    (gm_md_rootComes hi hm hs).cal (by omega) (by omega) q2088,
    trivial⟩ i _ hg⟩) q2062 q242 mh_md ds_26 q2061 qs110
theorem gm_md_isNewest {l : Launch} {Z : gZ} {m : Nat} (hi : gInj Z) (hm : m ≤ zN Z) (hs : gStop.toNat < zN Z) : gCee l Z yX10_isNewest (ws_ yX10_isNewest cX10_isNewest 2 (Option.some Jvm.ClassFile.FieldType.boolean)) 0 0 2 2 20 0 (.inl (fn_md_isNewest m)) :=
  gCee.vi (k := 1) (by decide) (gmetF hi ⟨plainFor_of_name pn_md, ok_md_isNewest, hm, Or.inr (Or.inr (Or.inr (Or.inl ⟨rfl, rfl⟩))), rfl, fun i c k t hg => gall_spec F_md i _ hg, gall_spec C_md, fun i k rc rt f hg => gall_spec (P := gCl l Z "GraftTreesModel" ⟨0, 0, 0, 0⟩) (xs := (e_md_isNewest m).2.2.2.1) trivial i _ hg⟩) q2588 q242 mh_md ds_8 q2587 qs119
theorem gm_md_addUnit {l : Launch} {Z : gZ} {m : Nat} (hi : gInj Z) (hm : m ≤ zN Z) (hs : gStop.toNat < zN Z) : gCee l Z yX10_addUnit (ws_ yX10_addUnit cX10_addUnit 7 (Option.none : Option Jvm.ClassFile.FieldType)) 1 22 7 6 20 5 (.inl (fn_md_addUnit m)) :=
  gCee.vi (k := 5) (by decide) (gmetF hi ⟨plainFor_of_name pn_md, ok_md_addUnit, hm, Or.inr (Or.inr (Or.inr (Or.inr (Or.inr (Or.inr ⟨rfl, rfl⟩))))), rfl, fun i c k t hg => gall_spec F_md i _ hg, gall_spec C_md, fun i k rc rt f hg => gall_spec (P := gCl l Z "GraftTreesModel" ⟨1, 0, 0, 22⟩) (xs := (e_md_addUnit m).2.2.2.1) ⟨(gm_md_unit hi hm hs).cal (by omega) (by omega) q2096,
    trivial⟩ i _ hg⟩) q2596 q242 mh_md ds_47 q2595 qs121
theorem gm_md_isSure {l : Launch} {Z : gZ} {m : Nat} (hi : gInj Z) (hm : m ≤ zN Z) (hs : gStop.toNat < zN Z) : gCee l Z yX10_isSure (ws_ yX10_isSure cX10_isSure 3 (Option.some Jvm.ClassFile.FieldType.boolean)) 0 0 3 2 20 0 (.inl (fn_md_isSure m)) :=
  gCee.vi (k := 1) (by decide) (gmetF hi ⟨plainFor_of_name pn_md, ok_md_isSure, hm, Or.inr (Or.inr (Or.inr (Or.inl ⟨rfl, rfl⟩))), rfl, fun i c k t hg => gall_spec F_md i _ hg, gall_spec C_md, fun i k rc rt f hg => gall_spec (P := gCl l Z "GraftTreesModel" ⟨0, 0, 0, 0⟩) (xs := (e_md_isSure m).2.2.2.1) trivial i _ hg⟩) q2604 q242 mh_md ds_8 q2603 qs123
theorem gm_md_guards {l : Launch} {Z : gZ} {m : Nat} (hi : gInj Z) (hm : m ≤ zN Z) (hs : gStop.toNat < zN Z) : gCee l Z yX10_guards (ws_ yX10_guards cX10_guards 3 (Option.some Jvm.ClassFile.FieldType.int)) 1 22 3 2 20 0 (.inl (fn_md_guards m)) :=
  gCee.vi (k := 1) (by decide) (gmetF hi ⟨plainFor_of_name pn_md, ok_md_guards, hm, Or.inr (Or.inr (Or.inl ⟨rfl, rfl⟩)), rfl, fun i c k t hg => gall_spec F_md i _ hg, gall_spec C_md, fun i k rc rt f hg => gall_spec (P := gCl l Z "GraftTreesModel" ⟨1, 0, 0, 22⟩) (xs := (e_md_guards m).2.2.2.1) ⟨(gm_md_isSure hi hm hs).cal (by omega) (by omega) q2601,
    (gm_jm_max hi (Nat.zero_le _)).cal (by omega) (by omega) q2605,
    trivial⟩ i _ hg⟩) q2600 q242 mh_md ds_16 q2599 qs122
theorem gm_md_mayLie {l : Launch} {Z : gZ} {m : Nat} (hi : gInj Z) (hm : m ≤ zN Z) (hs : gStop.toNat < zN Z) : gCee l Z yX10_mayLie (ws_ yX10_mayLie cX10_mayLie 5 (Option.some Jvm.ClassFile.FieldType.boolean)) 1 22 5 4 20 0 (.inl (fn_md_mayLie m)) :=
  gCee.vi (k := 3) (by decide) (gmetF hi ⟨plainFor_of_name pn_md, ok_md_mayLie, hm, Or.inr (Or.inr (Or.inr (Or.inl ⟨rfl, rfl⟩))), rfl, fun i c k t hg => gall_spec F_md i _ hg, gall_spec C_md, fun i k rc rt f hg => gall_spec (P := gCl l Z "GraftTreesModel" ⟨1, 0, 0, 22⟩) (xs := (e_md_mayLie m).2.2.2.1) ⟨(gm_md_isNewest hi hm hs).cal (by omega) (by omega) q2585,
    (gm_md_unit hi hm hs).cal (by omega) (by omega) q2096,
    trivial⟩ i _ hg⟩) q2609 q242 mh_md ds_53 q2608 qs124
theorem gm_md_makeCode {l : Launch} {Z : gZ} {m : Nat} (hi : gInj Z) (hm : m ≤ zN Z) (hs : gStop.toNat < zN Z) : gCee l Z yX10_makeCode (ws_ yX10_makeCode cX10_makeCode 6 (Option.some Jvm.ClassFile.FieldType.int)) 2 48 6 2 20 0 (.inl (fn_md_makeCode m)) :=
  gCee.vi (k := 1) (by decide) (gmetF hi ⟨plainFor_of_name pn_md, ok_md_makeCode, hm, Or.inr (Or.inr (Or.inl ⟨rfl, rfl⟩)), rfl, fun i c k t hg => gall_spec F_md i _ hg, gall_spec C_md, fun i k rc rt f hg => gall_spec (P := gCl l Z "GraftTreesModel" ⟨2, 0, 0, 48⟩) (xs := (e_md_makeCode m).2.2.2.1) ⟨(gm_md_addUnit hi hm hs).cal (by omega) (by omega) q2593,
    (gm_md_unit hi hm hs).cal (by omega) (by omega) q2096,
    (gm_md_guards hi hm hs).cal (by omega) (by omega) q2597,
    (gm_md_mayLie hi hm hs).cal (by omega) (by omega) q2606,
    trivial⟩ i _ hg⟩) q2592 q242 mh_md ds_16 q2591 qs120
theorem gm_md_compile {l : Launch} {Z : gZ} {m : Nat} (hi : gInj Z) (hm : m ≤ zN Z) (hs : gStop.toNat < zN Z) : gCee l Z yX10_compile (ws_ yX10_compile cX10_compile 3 (Option.some Jvm.ClassFile.FieldType.int)) 3 73 3 1 20 0 (.inl (fn_md_compile m)) :=
  gCee.vi (k := 0) (by decide) (gmetF hi ⟨plainFor_of_name pn_md, ok_md_compile, hm, Or.inr (Or.inr (Or.inl ⟨rfl, rfl⟩)), rfl, fun i c k t hg => gall_spec F_md i _ hg, gall_spec C_md, fun i k rc rt f hg => gall_spec (P := gCl l Z "GraftTreesModel" ⟨3, 0, 0, 73⟩) (xs := (e_md_compile m).2.2.2.1) ⟨(gm_md_isNewest hi hm hs).cal (by omega) (by omega) q2585,
    (gm_md_makeCode hi hm hs).cal (by omega) (by omega) q2589,
    trivial⟩ i _ hg⟩) q2584 q242 mh_md ds_13 q2582 q2583
theorem gm_md_feed {l : Launch} {Z : gZ} {m : Nat} (hi : gInj Z) (hm : m ≤ zN Z) (hs : gStop.toNat < zN Z) : gCee l Z yX10_feed (ws_ yX10_feed cX10_feed 9 (Option.some Jvm.ClassFile.FieldType.int)) 0 0 9 6 20 0 (.inl (fn_md_feed m)) :=
  gCee.vi (k := 5) (by decide) (gmetF hi ⟨plainFor_of_name pn_md, ok_md_feed, hm, Or.inr (Or.inr (Or.inl ⟨rfl, rfl⟩)), rfl, fun i c k t hg => gall_spec F_md i _ hg, gall_spec C_md, fun i k rc rt f hg => gall_spec (P := gCl l Z "GraftTreesModel" ⟨0, 0, 0, 0⟩) (xs := (e_md_feed m).2.2.2.1) trivial i _ hg⟩) q2613 q242 mh_md ds_50 q2611 q2612
theorem gm_md_noRun {l : Launch} {Z : gZ} {m : Nat} (hi : gInj Z) (hm : m ≤ zN Z) (hs : gStop.toNat < zN Z) : gCee l Z yX10_noRun (ws_ yX10_noRun cX10_noRun 1 (Option.none : Option Jvm.ClassFile.FieldType)) 0 0 1 1 20 5 (.inl (fn_md_noRun m)) :=
  gCee.vi (k := 0) (by decide) (gmetF hi ⟨plainFor_of_name pn_md, ok_md_noRun, hm, Or.inr (Or.inr (Or.inr (Or.inr (Or.inr (Or.inr ⟨rfl, rfl⟩))))), rfl, fun i c k t hg => gall_spec F_md i _ hg, gall_spec C_md, fun i k rc rt f hg => gall_spec (P := gCl l Z "GraftTreesModel" ⟨0, 0, 0, 0⟩) (xs := (e_md_noRun m).2.2.2.1) trivial i _ hg⟩) q2621 q242 mh_md ds_26 q2620 qs125
theorem gm_md_sign {l : Launch} {Z : gZ} {m : Nat} (hi : gInj Z) (hm : m ≤ zN Z) (hs : gStop.toNat < zN Z) : gCee l Z yX10_sign (ws_ yX10_sign cX10_sign 2 (Option.some Jvm.ClassFile.FieldType.int)) 0 0 2 2 20 0 (.inl (fn_md_sign m)) :=
  gCee.vi (k := 1) (by decide) (gmetF hi ⟨plainFor_of_name pn_md, ok_md_sign, hm, Or.inr (Or.inr (Or.inl ⟨rfl, rfl⟩)), rfl, fun i c k t hg => gall_spec F_md i _ hg, gall_spec C_md, fun i k rc rt f hg => gall_spec (P := gCl l Z "GraftTreesModel" ⟨0, 0, 0, 0⟩) (xs := (e_md_sign m).2.2.2.1) trivial i _ hg⟩) q2637 q242 mh_md ds_16 q2636 qs129
theorem gm_md_blanks {l : Launch} {Z : gZ} {m : Nat} (hi : gInj Z) (hm : m ≤ zN Z) (hs : gStop.toNat < zN Z) : gCee l Z yX10_blanks (ws_ yX10_blanks cX10_blanks 2 (Option.none : Option Jvm.ClassFile.FieldType)) 1 21 2 1 20 5 (.inl (fn_md_blanks m)) :=
  gCee.vi (k := 0) (by decide) (gmetF hi ⟨plainFor_of_name pn_md, ok_md_blanks, hm, Or.inr (Or.inr (Or.inr (Or.inr (Or.inr (Or.inr ⟨rfl, rfl⟩))))), rfl, fun i c k t hg => gall_spec F_md i _ hg, gall_spec C_md, fun i k rc rt f hg => gall_spec (P := gCl l Z "GraftTreesModel" ⟨1, 0, 0, 21⟩) (xs := (e_md_blanks m).2.2.2.1) ⟨(gm_md_sign hi hm hs).cal (by omega) (by omega) q2634,
    trivial⟩ i _ hg⟩) q2633 q242 mh_md ds_26 q2632 qs128
theorem gm_md_isLetter {l : Launch} {Z : gZ} {m : Nat} (hi : gInj Z) (hm : m ≤ zN Z) (hs : gStop.toNat < zN Z) : gCee l Z yX10_isLetter (ws_ yX10_isLetter cX10_isLetter 1 (Option.some Jvm.ClassFile.FieldType.boolean)) 0 0 1 1 0 0 (.inl (fn_md_isLetter m)) :=
  gCee.st (k := 1) (gmetF hi ⟨plainFor_of_name pn_md, ok_md_isLetter, hm, Or.inr (Or.inr (Or.inr (Or.inl ⟨rfl, rfl⟩))), rfl, fun i c k t hg => gall_spec F_md i _ hg, gall_spec C_md, fun i k rc rt f hg => gall_spec (P := gCl l Z "GraftTreesModel" ⟨0, 0, 0, 0⟩) (xs := (e_md_isLetter m).2.2.2.1) trivial i _ hg⟩) q2640 q242 mh_md ds_8 q2639
theorem gm_md_isDigit {l : Launch} {Z : gZ} {m : Nat} (hi : gInj Z) (hm : m ≤ zN Z) (hs : gStop.toNat < zN Z) : gCee l Z yX10_isDigit (ws_ yX10_isDigit cX10_isDigit 1 (Option.some Jvm.ClassFile.FieldType.boolean)) 0 0 1 1 0 0 (.inl (fn_md_isDigit m)) :=
  gCee.st (k := 1) (gmetF hi ⟨plainFor_of_name pn_md, ok_md_isDigit, hm, Or.inr (Or.inr (Or.inr (Or.inl ⟨rfl, rfl⟩))), rfl, fun i c k t hg => gall_spec F_md i _ hg, gall_spec C_md, fun i k rc rt f hg => gall_spec (P := gCl l Z "GraftTreesModel" ⟨0, 0, 0, 0⟩) (xs := (e_md_isDigit m).2.2.2.1) trivial i _ hg⟩) q2643 q242 mh_md ds_8 q2642
theorem gm_md_fails {l : Launch} {Z : gZ} {m : Nat} (hi : gInj Z) (hm : m ≤ zN Z) (hs : gStop.toNat < zN Z) : gCee l Z yX10_fails (ws_ yX10_fails cX10_fails 3 (Option.some (Jvm.ClassFile.FieldType.object "GraftTreesModel$Stop"))) 0 0 3 3 20 2 (.inl (fn_md_fails m)) :=
  gCee.vi (k := 2) (by decide) (gmetF hi ⟨plainFor_of_name pn_md, ok_md_fails, hm, Or.inr (Or.inr (Or.inr (Or.inr (Or.inr (Or.inl ⟨rfl, _, rfl⟩))))), rfl, fun i c k t hg => gall_spec F_md i _ hg, gall_spec C_md, fun i k rc rt f hg => gall_spec (P := gCl l Z "GraftTreesModel" ⟨0, 0, 0, 0⟩) (xs := (e_md_fails m).2.2.2.1) trivial i _ hg⟩) q2647 q242 mh_md ds_54 q2646 qs130
theorem gm_md_word {l : Launch} {Z : gZ} {m : Nat} (hi : gInj Z) (hm : m ≤ zN Z) (hs : gStop.toNat < zN Z) : gCee l Z yX10_word (ws_ yX10_word cX10_word 6 (Option.some Jvm.ClassFile.FieldType.int)) 4 85 6 1 20 0 (.inl (fn_md_word m)) :=
  gCee.vi (k := 0) (by decide) (gmetF hi ⟨plainFor_of_name pn_md, ok_md_word, hm, Or.inr (Or.inr (Or.inl ⟨rfl, rfl⟩)), rfl, fun i c k t hg => gall_spec F_md i _ hg, gall_spec C_md, fun i k rc rt f hg => gall_spec (P := gCl l Z "GraftTreesModel" ⟨4, 0, 0, 85⟩) (xs := (e_md_word m).2.2.2.1) ⟨(gm_st_length hi (Nat.zero_le _)).cal (by omega) (by omega) q2071,
    (gm_st_charAt hi (Nat.zero_le _)).cal (by omega) (by omega) q2072,
    (gm_md_sign hi hm hs).cal (by omega) (by omega) q2634,
    trivial⟩ i _ hg⟩) q2651 q242 mh_md ds_13 q2650 qs131
theorem gm_md_string {l : Launch} {Z : gZ} {m : Nat} (hi : gInj Z) (hm : m ≤ zN Z) (hs : gStop.toNat < zN Z) : gCee l Z yX10_string (ws_ yX10_string cX10_string 1 (Option.none : Option Jvm.ClassFile.FieldType)) 1 22 1 1 20 5 (.inr (fn_md_string m)) :=
  gCee.vi (k := 0) (by decide) (gmetG hi hs ⟨plainFor_of_name pn_md, ok_md_string, hm, Or.inr (Or.inr (Or.inr (Or.inr (Or.inr (Or.inr ⟨rfl, rfl⟩))))), rfl, fun i c k t hg => gall_spec F_md i _ hg, gall_spec C_md, fun i k rc rt f hg => gall_spec (P := gCl l Z "GraftTreesModel" ⟨1, 0, 0, 22⟩) (xs := (e_md_string m).2.2.2.1) ⟨(gm_md_sign hi hm hs).cal (by omega) (by omega) q2634,
    (gm_md_fails hi hm hs).cal (by omega) (by omega) q2644,
    trivial⟩ i _ hg⟩) q2656 q242 mh_md ds_26 q2655 qs132
theorem gm_md_signs {l : Launch} {Z : gZ} {m : Nat} (hi : gInj Z) (hm : m ≤ zN Z) (hs : gStop.toNat < zN Z) : gCee l Z yX10_signs (ws_ yX10_signs cX10_signs 5 (Option.none : Option Jvm.ClassFile.FieldType)) 4 85 5 2 20 5 (.inr (fn_md_signs m)) :=
  gCee.vi (k := 1) (by decide) (gmetG hi hs ⟨plainFor_of_name pn_md, ok_md_signs, hm, Or.inr (Or.inr (Or.inr (Or.inr (Or.inr (Or.inr ⟨rfl, rfl⟩))))), rfl, fun i c k t hg => gall_spec F_md i _ hg, gall_spec C_md, fun i k rc rt f hg => gall_spec (P := gCl l Z "GraftTreesModel" ⟨4, 0, 0, 85⟩) (xs := (e_md_signs m).2.2.2.1) ⟨(gm_st_length hi (Nat.zero_le _)).cal (by omega) (by omega) q2071,
    (gm_st_charAt hi (Nat.zero_le _)).cal (by omega) (by omega) q2072,
    (gm_md_fails hi hm hs).cal (by omega) (by omega) q2644,
    (gm_md_sign hi hm hs).cal (by omega) (by omega) q2634,
    trivial⟩ i _ hg⟩) q2660 q242 mh_md ds_19 q2659 qs133
theorem gm_md_take {l : Launch} {Z : gZ} {m : Nat} (hi : gInj Z) (hm : m ≤ zN Z) (hs : gStop.toNat < zN Z) : gCee l Z yX10_take (ws_ yX10_take cX10_take 2 (Option.none : Option Jvm.ClassFile.FieldType)) 5 110 2 1 20 5 (.inr (fn_md_take m)) :=
  gCee.vi (k := 0) (by decide) (gmetG hi hs ⟨plainFor_of_name pn_md, ok_md_take, hm, Or.inr (Or.inr (Or.inr (Or.inr (Or.inr (Or.inr ⟨rfl, rfl⟩))))), rfl, fun i c k t hg => gall_spec F_md i _ hg, gall_spec C_md, fun i k rc rt f hg => gall_spec (P := gCl l Z "GraftTreesModel" ⟨5, 0, 0, 110⟩) (xs := (e_md_take m).2.2.2.1) ⟨(gm_md_blanks hi hm hs).cal (by omega) (by omega) q2630,
    (gm_md_sign hi hm hs).cal (by omega) (by omega) q2634,
    (gm_md_isLetter hi hm hs).cal (by omega) (by omega) q2638,
    (gm_md_isDigit hi hm hs).cal (by omega) (by omega) q2641,
    (gm_md_fails hi hm hs).cal (by omega) (by omega) q2644,
    (gm_md_word hi hm hs).cal (by omega) (by omega) q2648,
    (gm_md_string hi hm hs).cal (by omega) (by omega) q2653,
    (gm_md_signs hi hm hs).cal (by omega) (by omega) q2657,
    trivial⟩ i _ hg⟩) q2629 q242 mh_md ds_26 q2628 qs127
theorem gm_md_need {l : Launch} {Z : gZ} {m : Nat} (hi : gInj Z) (hm : m ≤ zN Z) (hs : gStop.toNat < zN Z) : gCee l Z yX10_need (ws_ yX10_need cX10_need 2 (Option.none : Option Jvm.ClassFile.FieldType)) 1 22 2 2 20 5 (.inr (fn_md_need m)) :=
  gCee.vi (k := 1) (by decide) (gmetG hi hs ⟨plainFor_of_name pn_md, ok_md_need, hm, Or.inr (Or.inr (Or.inr (Or.inr (Or.inr (Or.inr ⟨rfl, rfl⟩))))), rfl, fun i c k t hg => gall_spec F_md i _ hg, gall_spec C_md, fun i k rc rt f hg => gall_spec (P := gCl l Z "GraftTreesModel" ⟨1, 0, 0, 22⟩) (xs := (e_md_need m).2.2.2.1) ⟨(gm_md_fails hi hm hs).cal (by omega) (by omega) q2644,
    trivial⟩ i _ hg⟩) q2673 q242 mh_md ds_19 q2672 qs136
theorem gm_md_opens {l : Launch} {Z : gZ} {m : Nat} (hi : gInj Z) (hm : m ≤ zN Z) (hs : gStop.toNat < zN Z) : gCee l Z yX10_opens (ws_ yX10_opens cX10_opens 1 (Option.none : Option Jvm.ClassFile.FieldType)) 1 22 1 1 20 5 (.inr (fn_md_opens m)) :=
  gCee.vi (k := 0) (by decide) (gmetG hi hs ⟨plainFor_of_name pn_md, ok_md_opens, hm, Or.inr (Or.inr (Or.inr (Or.inr (Or.inr (Or.inr ⟨rfl, rfl⟩))))), rfl, fun i c k t hg => gall_spec F_md i _ hg, gall_spec C_md, fun i k rc rt f hg => gall_spec (P := gCl l Z "GraftTreesModel" ⟨1, 0, 0, 22⟩) (xs := (e_md_opens m).2.2.2.1) ⟨(gm_md_fails hi hm hs).cal (by omega) (by omega) q2644,
    trivial⟩ i _ hg⟩) q2677 q242 mh_md ds_26 q2676 qs137
theorem gm_md_pass {l : Launch} {Z : gZ} {m : Nat} (hi : gInj Z) (hm : m ≤ zN Z) (hs : gStop.toNat < zN Z) : gCee l Z yX10_pass (ws_ yX10_pass cX10_pass 2 (Option.none : Option Jvm.ClassFile.FieldType)) 6 131 2 2 20 5 (.inr (fn_md_pass m)) :=
  gCee.vi (k := 1) (by decide) (gmetG hi hs ⟨plainFor_of_name pn_md, ok_md_pass, hm, Or.inr (Or.inr (Or.inr (Or.inr (Or.inr (Or.inr ⟨rfl, rfl⟩))))), rfl, fun i c k t hg => gall_spec F_md i _ hg, gall_spec C_md, fun i k rc rt f hg => gall_spec (P := gCl l Z "GraftTreesModel" ⟨6, 0, 0, 131⟩) (xs := (e_md_pass m).2.2.2.1) ⟨(gm_md_need hi hm hs).cal (by omega) (by omega) q2670,
    (gm_md_opens hi hm hs).cal (by omega) (by omega) q2674,
    (gm_md_take hi hm hs).cal (by omega) (by omega) q2626,
    trivial⟩ i _ hg⟩) q2669 q242 mh_md ds_19 q2668 qs135
theorem gm_md_isWord {l : Launch} {Z : gZ} {m : Nat} (hi : gInj Z) (hm : m ≤ zN Z) (hs : gStop.toNat < zN Z) : gCee l Z yX10_isWord (ws_ yX10_isWord cX10_isWord 7 (Option.some Jvm.ClassFile.FieldType.boolean)) 0 0 7 5 20 0 (.inl (fn_md_isWord m)) :=
  gCee.vi (k := 4) (by decide) (gmetF hi ⟨plainFor_of_name pn_md, ok_md_isWord, hm, Or.inr (Or.inr (Or.inr (Or.inl ⟨rfl, rfl⟩))), rfl, fun i c k t hg => gall_spec F_md i _ hg, gall_spec C_md, fun i k rc rt f hg => gall_spec (P := gCl l Z "GraftTreesModel" ⟨0, 0, 0, 0⟩) (xs := (e_md_isWord m).2.2.2.1) trivial i _ hg⟩) q2681 q242 mh_md ds_34 q2680 qs138
theorem gm_md_localOf {l : Launch} {Z : gZ} {m : Nat} (hi : gInj Z) (hm : m ≤ zN Z) (hs : gStop.toNat < zN Z) : gCee l Z yX10_localOf (ws_ yX10_localOf cX10_localOf 4 (Option.some Jvm.ClassFile.FieldType.int)) 1 26 4 3 20 0 (.inl (fn_md_localOf m)) :=
  gCee.vi (k := 2) (by decide) (gmetF hi ⟨plainFor_of_name pn_md, ok_md_localOf, hm, Or.inr (Or.inr (Or.inl ⟨rfl, rfl⟩)), rfl, fun i c k t hg => gall_spec F_md i _ hg, gall_spec C_md, fun i k rc rt f hg => gall_spec (P := gCl l Z "GraftTreesModel" ⟨1, 0, 0, 26⟩) (xs := (e_md_localOf m).2.2.2.1) ⟨(gm_md_isWord hi hm hs).cal (by omega) (by omega) q2678,
    trivial⟩ i _ hg⟩) q2685 q242 mh_md ds_0 q2684 qs139
theorem gm_md_newNode {l : Launch} {Z : gZ} {m : Nat} (hi : gInj Z) (hm : m ≤ zN Z) (hs : gStop.toNat < zN Z) : gCee l Z yX10_newNode (ws_ yX10_newNode cX10_newNode 3 (Option.some Jvm.ClassFile.FieldType.int)) 1 22 3 2 20 0 (.inr (fn_md_newNode m)) :=
  gCee.vi (k := 1) (by decide) (gmetG hi hs ⟨plainFor_of_name pn_md, ok_md_newNode, hm, Or.inr (Or.inr (Or.inl ⟨rfl, rfl⟩)), rfl, fun i c k t hg => gall_spec F_md i _ hg, gall_spec C_md, fun i k rc rt f hg => gall_spec (P := gCl l Z "GraftTreesModel" ⟨1, 0, 0, 22⟩) (xs := (e_md_newNode m).2.2.2.1) ⟨(gm_md_fails hi hm hs).cal (by omega) (by omega) q2644,
    trivial⟩ i _ hg⟩) q2689 q242 mh_md ds_16 q2688 qs140
theorem gm_md_addLocal {l : Launch} {Z : gZ} {m : Nat} (hi : gInj Z) (hm : m ≤ zN Z) (hs : gStop.toNat < zN Z) : gCee l Z yX10_addLocal (ws_ yX10_addLocal cX10_addLocal 3 (Option.none : Option Jvm.ClassFile.FieldType)) 0 0 3 3 20 5 (.inl (fn_md_addLocal m)) :=
  gCee.vi (k := 2) (by decide) (gmetF hi ⟨plainFor_of_name pn_md, ok_md_addLocal, hm, Or.inr (Or.inr (Or.inr (Or.inr (Or.inr (Or.inr ⟨rfl, rfl⟩))))), rfl, fun i c k t hg => gall_spec F_md i _ hg, gall_spec C_md, fun i k rc rt f hg => gall_spec (P := gCl l Z "GraftTreesModel" ⟨0, 0, 0, 0⟩) (xs := (e_md_addLocal m).2.2.2.1) trivial i _ hg⟩) q2693 q242 mh_md ds_6 q2692 qs141
theorem gm_md_canBegin {l : Launch} {Z : gZ} {m : Nat} (hi : gInj Z) (hm : m ≤ zN Z) (hs : gStop.toNat < zN Z) : gCee l Z yX10_canBegin (ws_ yX10_canBegin cX10_canBegin 1 (Option.some Jvm.ClassFile.FieldType.boolean)) 0 0 1 1 20 0 (.inl (fn_md_canBegin m)) :=
  gCee.vi (k := 0) (by decide) (gmetF hi ⟨plainFor_of_name pn_md, ok_md_canBegin, hm, Or.inr (Or.inr (Or.inr (Or.inl ⟨rfl, rfl⟩))), rfl, fun i c k t hg => gall_spec F_md i _ hg, gall_spec C_md, fun i k rc rt f hg => gall_spec (P := gCl l Z "GraftTreesModel" ⟨0, 0, 0, 0⟩) (xs := (e_md_canBegin m).2.2.2.1) trivial i _ hg⟩) q2745 q242 mh_md ds_14 q2744 qs154
theorem gm_md_pair {l : Launch} {Z : gZ} {m : Nat} (hi : gInj Z) (hm : m ≤ zN Z) (hs : gStop.toNat < zN Z) : gCee l Z yX10_pair (ws_ yX10_pair cX10_pair 4 (Option.some Jvm.ClassFile.FieldType.int)) 6 131 4 3 20 0 (.inr (fn_md_pair m)) :=
  gCee.vi (k := 2) (by decide) (gmetG hi hs ⟨plainFor_of_name pn_md, ok_md_pair, hm, Or.inr (Or.inr (Or.inl ⟨rfl, rfl⟩)), rfl, fun i c k t hg => gall_spec F_md i _ hg, gall_spec C_md, fun i k rc rt f hg => gall_spec (P := gCl l Z "GraftTreesModel" ⟨6, 0, 0, 131⟩) (xs := (e_md_pair m).2.2.2.1) ⟨(gm_md_newNode hi hm hs).cal (by omega) (by omega) q2686,
    (gm_md_take hi hm hs).cal (by omega) (by omega) q2626,
    trivial⟩ i _ hg⟩) q2753 q242 mh_md ds_0 q2752 qs156
theorem gm_rec_md_added {l : Launch} {Z : gZ} {m : Nat} (hi : gInj Z) (hm : m ≤ zN Z) (hs : gStop.toNat < zN Z) : ∀ d : Nat, gCee l Z yX10_added (ws_ yX10_added cX10_added 2 (Option.some Jvm.ClassFile.FieldType.int)) (7 + d) (154 + d * 26) 2 1 20 0 (.inr (rec_md_added m d 0)) ∧
  gCee l Z yX10_atom (ws_ yX10_atom cX10_atom 2 (Option.some Jvm.ClassFile.FieldType.int)) (7 + d) (154 + d * 26) 2 1 20 0 (.inr (rec_md_added m d 1)) ∧
  gCee l Z yX10_both (ws_ yX10_both cX10_both 2 (Option.some Jvm.ClassFile.FieldType.int)) (7 + d) (154 + d * 26) 2 1 20 0 (.inr (rec_md_added m d 2)) ∧
  gCee l Z yX10_call (ws_ yX10_call cX10_call 7 (Option.some Jvm.ClassFile.FieldType.int)) (7 + d) (154 + d * 26) 7 2 20 0 (.inr (rec_md_added m d 3)) ∧
  gCee l Z yX10_e (ws_ yX10_e cX10_e 4 (Option.some Jvm.ClassFile.FieldType.int)) (7 + d) (154 + d * 26) 4 1 20 0 (.inr (rec_md_added m d 4)) ∧
  gCee l Z yX10_either (ws_ yX10_either cX10_either 2 (Option.some Jvm.ClassFile.FieldType.int)) (7 + d) (154 + d * 26) 2 1 20 0 (.inr (rec_md_added m d 5)) ∧
  gCee l Z yX10_get (ws_ yX10_get cX10_get 4 (Option.some Jvm.ClassFile.FieldType.int)) (7 + d) (154 + d * 26) 4 2 20 0 (.inr (rec_md_added m d 6)) ∧
  gCee l Z yX10_less (ws_ yX10_less cX10_less 2 (Option.some Jvm.ClassFile.FieldType.int)) (7 + d) (154 + d * 26) 2 1 20 0 (.inr (rec_md_added m d 7)) ∧
  gCee l Z yX10_product (ws_ yX10_product cX10_product 2 (Option.some Jvm.ClassFile.FieldType.int)) (7 + d) (154 + d * 26) 2 1 20 0 (.inr (rec_md_added m d 8)) ∧
  gCee l Z yX10_same (ws_ yX10_same cX10_same 2 (Option.some Jvm.ClassFile.FieldType.int)) (7 + d) (154 + d * 26) 2 1 20 0 (.inr (rec_md_added m d 9)) ∧
  gCee l Z yX10_unary (ws_ yX10_unary cX10_unary 2 (Option.some Jvm.ClassFile.FieldType.int)) (7 + d) (154 + d * 26) 2 1 20 0 (.inr (rec_md_added m d 10))
  | 0 => ⟨gCee.vi (k := 0) (by decide) (gMet_none2) q2725 q242 mh_md ds_13 q2724 qs149,
    gCee.vi (k := 0) (by decide) (gMet_none2) q2737 q242 mh_md ds_13 q2736 qs152,
    gCee.vi (k := 0) (by decide) (gMet_none2) q2713 q242 mh_md ds_13 q2712 qs146,
    gCee.vi (k := 1) (by decide) (gMet_none2) q2741 q242 mh_md ds_16 q2740 qs153,
    gCee.vi (k := 0) (by decide) (gMet_none2) q2705 q242 mh_md ds_13 q2704 qs144,
    gCee.vi (k := 0) (by decide) (gMet_none2) q2709 q242 mh_md ds_13 q2708 qs145,
    gCee.vi (k := 1) (by decide) (gMet_none2) q2749 q242 mh_md ds_16 q2748 qs155,
    gCee.vi (k := 0) (by decide) (gMet_none2) q2721 q242 mh_md ds_13 q2720 qs148,
    gCee.vi (k := 0) (by decide) (gMet_none2) q2729 q242 mh_md ds_13 q2728 qs150,
    gCee.vi (k := 0) (by decide) (gMet_none2) q2717 q242 mh_md ds_13 q2716 qs147,
    gCee.vi (k := 0) (by decide) (gMet_none2) q2733 q242 mh_md ds_13 q2732 qs151⟩
  | d + 1 => by
    have h := gm_rec_md_added (l := l) hi hm hs d
    exact ⟨gCee.vi (k := 0) (by decide) (gmetG hi hs ⟨plainFor_of_name pn_md, ok_md_added, hm, Or.inr (Or.inr (Or.inl ⟨rfl, rfl⟩)), rfl, fun i c k t hg => gall_spec F_md i _ hg, gall_spec C_md, fun i k rc rt f hg => gall_spec (P := gCl l Z "GraftTreesModel" ⟨(7 + (d + 1)), 0, 0, (154 + (d + 1) * 26)⟩) (xs := (e_md_added m (rec_md_added m d)).2.2.2.1) ⟨h.2.2.2.2.2.2.2.2.1.cal (by omega) (by omega) q2726,
    (gm_md_pair hi hm hs).cal (by omega) (by omega) q2750,
    trivial⟩ i _ hg⟩) q2725 q242 mh_md ds_13 q2724 qs149,
    gCee.vi (k := 0) (by decide) (gmetG hi hs ⟨plainFor_of_name pn_md, ok_md_atom, hm, Or.inr (Or.inr (Or.inl ⟨rfl, rfl⟩)), rfl, fun i c k t hg => gall_spec F_md i _ hg, gall_spec C_md, fun i k rc rt f hg => gall_spec (P := gCl l Z "GraftTreesModel" ⟨(7 + (d + 1)), 0, 0, (154 + (d + 1) * 26)⟩) (xs := (e_md_atom m (rec_md_added m d)).2.2.2.1) ⟨(gm_md_newNode hi hm hs).cal (by omega) (by omega) q2686,
    (gm_md_pass hi hm hs).cal (by omega) (by omega) q2666,
    h.2.2.2.2.1.cal (by omega) (by omega) q2702,
    (gm_md_fails hi hm hs).cal (by omega) (by omega) q2644,
    (gm_md_take hi hm hs).cal (by omega) (by omega) q2626,
    trivial⟩ i _ hg⟩) q2737 q242 mh_md ds_13 q2736 qs152,
    gCee.vi (k := 0) (by decide) (gmetG hi hs ⟨plainFor_of_name pn_md, ok_md_both, hm, Or.inr (Or.inr (Or.inl ⟨rfl, rfl⟩)), rfl, fun i c k t hg => gall_spec F_md i _ hg, gall_spec C_md, fun i k rc rt f hg => gall_spec (P := gCl l Z "GraftTreesModel" ⟨(7 + (d + 1)), 0, 0, (154 + (d + 1) * 26)⟩) (xs := (e_md_both m (rec_md_added m d)).2.2.2.1) ⟨h.2.2.2.2.2.2.2.2.2.1.cal (by omega) (by omega) q2714,
    (gm_md_pair hi hm hs).cal (by omega) (by omega) q2750,
    trivial⟩ i _ hg⟩) q2713 q242 mh_md ds_13 q2712 qs146,
    gCee.vi (k := 1) (by decide) (gmetG hi hs ⟨plainFor_of_name pn_md, ok_md_call, hm, Or.inr (Or.inr (Or.inl ⟨rfl, rfl⟩)), rfl, fun i c k t hg => gall_spec F_md i _ hg, gall_spec C_md, fun i k rc rt f hg => gall_spec (P := gCl l Z "GraftTreesModel" ⟨(7 + (d + 1)), 0, 0, (154 + (d + 1) * 26)⟩) (xs := (e_md_call m (rec_md_added m d)).2.2.2.1) ⟨(gm_md_opens hi hm hs).cal (by omega) (by omega) q2674,
    (gm_md_newNode hi hm hs).cal (by omega) (by omega) q2686,
    (gm_md_take hi hm hs).cal (by omega) (by omega) q2626,
    (gm_md_canBegin hi hm hs).cal (by omega) (by omega) q2742,
    (gm_md_fails hi hm hs).cal (by omega) (by omega) q2644,
    h.2.2.2.2.1.cal (by omega) (by omega) q2702,
    (gm_md_pass hi hm hs).cal (by omega) (by omega) q2666,
    trivial⟩ i _ hg⟩) q2741 q242 mh_md ds_16 q2740 qs153,
    gCee.vi (k := 0) (by decide) (gmetG hi hs ⟨plainFor_of_name pn_md, ok_md_e, hm, Or.inr (Or.inr (Or.inl ⟨rfl, rfl⟩)), rfl, fun i c k t hg => gall_spec F_md i _ hg, gall_spec C_md, fun i k rc rt f hg => gall_spec (P := gCl l Z "GraftTreesModel" ⟨(7 + (d + 1)), 0, 0, (154 + (d + 1) * 26)⟩) (xs := (e_md_e m (rec_md_added m d)).2.2.2.1) ⟨h.2.2.2.2.2.1.cal (by omega) (by omega) q2706,
    (gm_md_fails hi hm hs).cal (by omega) (by omega) q2644,
    (gm_md_opens hi hm hs).cal (by omega) (by omega) q2674,
    (gm_md_localOf hi hm hs).cal (by omega) (by omega) q2682,
    (gm_md_addLocal hi hm hs).cal (by omega) (by omega) q2690,
    (gm_md_take hi hm hs).cal (by omega) (by omega) q2626,
    h.2.2.2.2.1.cal (by omega) (by omega) q2702,
    trivial⟩ i _ hg⟩) q2705 q242 mh_md ds_13 q2704 qs144,
    gCee.vi (k := 0) (by decide) (gmetG hi hs ⟨plainFor_of_name pn_md, ok_md_either, hm, Or.inr (Or.inr (Or.inl ⟨rfl, rfl⟩)), rfl, fun i c k t hg => gall_spec F_md i _ hg, gall_spec C_md, fun i k rc rt f hg => gall_spec (P := gCl l Z "GraftTreesModel" ⟨(7 + (d + 1)), 0, 0, (154 + (d + 1) * 26)⟩) (xs := (e_md_either m (rec_md_added m d)).2.2.2.1) ⟨h.2.2.1.cal (by omega) (by omega) q2710,
    (gm_md_pair hi hm hs).cal (by omega) (by omega) q2750,
    trivial⟩ i _ hg⟩) q2709 q242 mh_md ds_13 q2708 qs145,
    gCee.vi (k := 1) (by decide) (gmetG hi hs ⟨plainFor_of_name pn_md, ok_md_get, hm, Or.inr (Or.inr (Or.inl ⟨rfl, rfl⟩)), rfl, fun i c k t hg => gall_spec F_md i _ hg, gall_spec C_md, fun i k rc rt f hg => gall_spec (P := gCl l Z "GraftTreesModel" ⟨(7 + (d + 1)), 0, 0, (154 + (d + 1) * 26)⟩) (xs := (e_md_get m (rec_md_added m d)).2.2.2.1) ⟨(gm_md_opens hi hm hs).cal (by omega) (by omega) q2674,
    (gm_md_newNode hi hm hs).cal (by omega) (by omega) q2686,
    (gm_md_take hi hm hs).cal (by omega) (by omega) q2626,
    (gm_md_need hi hm hs).cal (by omega) (by omega) q2670,
    h.2.2.2.2.1.cal (by omega) (by omega) q2702,
    (gm_md_pass hi hm hs).cal (by omega) (by omega) q2666,
    trivial⟩ i _ hg⟩) q2749 q242 mh_md ds_16 q2748 qs155,
    gCee.vi (k := 0) (by decide) (gmetG hi hs ⟨plainFor_of_name pn_md, ok_md_less, hm, Or.inr (Or.inr (Or.inl ⟨rfl, rfl⟩)), rfl, fun i c k t hg => gall_spec F_md i _ hg, gall_spec C_md, fun i k rc rt f hg => gall_spec (P := gCl l Z "GraftTreesModel" ⟨(7 + (d + 1)), 0, 0, (154 + (d + 1) * 26)⟩) (xs := (e_md_less m (rec_md_added m d)).2.2.2.1) ⟨h.1.cal (by omega) (by omega) q2722,
    (gm_md_pair hi hm hs).cal (by omega) (by omega) q2750,
    trivial⟩ i _ hg⟩) q2721 q242 mh_md ds_13 q2720 qs148,
    gCee.vi (k := 0) (by decide) (gmetG hi hs ⟨plainFor_of_name pn_md, ok_md_product, hm, Or.inr (Or.inr (Or.inl ⟨rfl, rfl⟩)), rfl, fun i c k t hg => gall_spec F_md i _ hg, gall_spec C_md, fun i k rc rt f hg => gall_spec (P := gCl l Z "GraftTreesModel" ⟨(7 + (d + 1)), 0, 0, (154 + (d + 1) * 26)⟩) (xs := (e_md_product m (rec_md_added m d)).2.2.2.1) ⟨h.2.2.2.2.2.2.2.2.2.2.cal (by omega) (by omega) q2730,
    (gm_md_pair hi hm hs).cal (by omega) (by omega) q2750,
    trivial⟩ i _ hg⟩) q2729 q242 mh_md ds_13 q2728 qs150,
    gCee.vi (k := 0) (by decide) (gmetG hi hs ⟨plainFor_of_name pn_md, ok_md_same, hm, Or.inr (Or.inr (Or.inl ⟨rfl, rfl⟩)), rfl, fun i c k t hg => gall_spec F_md i _ hg, gall_spec C_md, fun i k rc rt f hg => gall_spec (P := gCl l Z "GraftTreesModel" ⟨(7 + (d + 1)), 0, 0, (154 + (d + 1) * 26)⟩) (xs := (e_md_same m (rec_md_added m d)).2.2.2.1) ⟨h.2.2.2.2.2.2.2.1.cal (by omega) (by omega) q2718,
    (gm_md_pair hi hm hs).cal (by omega) (by omega) q2750,
    trivial⟩ i _ hg⟩) q2717 q242 mh_md ds_13 q2716 qs147,
    gCee.vi (k := 0) (by decide) (gmetG hi hs ⟨plainFor_of_name pn_md, ok_md_unary, hm, Or.inr (Or.inr (Or.inl ⟨rfl, rfl⟩)), rfl, fun i c k t hg => gall_spec F_md i _ hg, gall_spec C_md, fun i k rc rt f hg => gall_spec (P := gCl l Z "GraftTreesModel" ⟨(7 + (d + 1)), 0, 0, (154 + (d + 1) * 26)⟩) (xs := (e_md_unary m (rec_md_added m d)).2.2.2.1) ⟨(gm_md_opens hi hm hs).cal (by omega) (by omega) q2674,
    (gm_md_newNode hi hm hs).cal (by omega) (by omega) q2686,
    (gm_md_take hi hm hs).cal (by omega) (by omega) q2626,
    h.2.2.2.2.2.2.2.2.2.2.cal (by omega) (by omega) q2730,
    h.2.1.cal (by omega) (by omega) q2734,
    h.2.2.2.1.cal (by omega) (by omega) q2738,
    h.2.2.2.2.2.2.1.cal (by omega) (by omega) q2746,
    trivial⟩ i _ hg⟩) q2733 q242 mh_md ds_13 q2732 qs151⟩
theorem gm_rec_md_block {l : Launch} {Z : gZ} {m : Nat} (hi : gInj Z) (hm : m ≤ zN Z) (hs : gStop.toNat < zN Z) : ∀ d : Nat, gCee l Z yX10_block (ws_ yX10_block cX10_block 4 (Option.some Jvm.ClassFile.FieldType.int)) (308 + d) (7977 + d * 23) 4 1 20 0 (.inr (rec_md_block m d 0)) ∧
  gCee l Z yX10_statement (ws_ yX10_statement cX10_statement 3 (Option.some Jvm.ClassFile.FieldType.int)) (308 + d) (7977 + d * 23) 3 1 20 0 (.inr (rec_md_block m d 1))
  | 0 => ⟨gCee.vi (k := 0) (by decide) (gMet_none2) q2697 q242 mh_md ds_13 q2696 qs142,
    gCee.vi (k := 0) (by decide) (gMet_none2) q2701 q242 mh_md ds_13 q2700 qs143⟩
  | d + 1 => by
    have h := gm_rec_md_block (l := l) hi hm hs d
    exact ⟨gCee.vi (k := 0) (by decide) (gmetG hi hs ⟨plainFor_of_name pn_md, ok_md_block, hm, Or.inr (Or.inr (Or.inl ⟨rfl, rfl⟩)), rfl, fun i c k t hg => gall_spec F_md i _ hg, gall_spec C_md, fun i k rc rt f hg => gall_spec (P := gCl l Z "GraftTreesModel" ⟨(308 + (d + 1)), 0, 0, (7977 + (d + 1) * 23)⟩) (xs := (e_md_block m (rec_md_block m d)).2.2.2.1) ⟨(gm_md_pass hi hm hs).cal (by omega) (by omega) q2666,
    h.2.cal (by omega) (by omega) q2698,
    trivial⟩ i _ hg⟩) q2697 q242 mh_md ds_13 q2696 qs142,
    gCee.vi (k := 0) (by decide) (gmetG hi hs ⟨plainFor_of_name pn_md, ok_md_statement, hm, Or.inr (Or.inr (Or.inl ⟨rfl, rfl⟩)), rfl, fun i c k t hg => gall_spec F_md i _ hg, gall_spec C_md, fun i k rc rt f hg => gall_spec (P := gCl l Z "GraftTreesModel" ⟨(308 + (d + 1)), 0, 0, (7977 + (d + 1) * 23)⟩) (xs := (e_md_statement m (rec_md_block m d)).2.2.2.1) ⟨(gm_md_newNode hi hm hs).cal (by omega) (by omega) q2686,
    (gm_md_take hi hm hs).cal (by omega) (by omega) q2626,
    (gm_md_pass hi hm hs).cal (by omega) (by omega) q2666,
    (gm_rec_md_added hi hm hs 300).2.2.2.2.1.cal (by omega) (by omega) q2702,
    h.1.cal (by omega) (by omega) q2694,
    (gm_md_fails hi hm hs).cal (by omega) (by omega) q2644,
    trivial⟩ i _ hg⟩) q2701 q242 mh_md ds_13 q2700 qs143⟩
theorem gm_md_function {l : Launch} {Z : gZ} {m : Nat} (hi : gInj Z) (hm : m ≤ zN Z) (hs : gStop.toNat < zN Z) : gCee l Z yX10_function (ws_ yX10_function cX10_function 3 (Option.none : Option Jvm.ClassFile.FieldType)) 369 9380 3 1 20 5 (.inr (fn_md_function m)) :=
  gCee.vi (k := 0) (by decide) (gmetG hi hs ⟨plainFor_of_name pn_md, ok_md_function, hm, Or.inr (Or.inr (Or.inr (Or.inr (Or.inr (Or.inr ⟨rfl, rfl⟩))))), rfl, fun i c k t hg => gall_spec F_md i _ hg, gall_spec C_md, fun i k rc rt f hg => gall_spec (P := gCl l Z "GraftTreesModel" ⟨369, 0, 0, 9380⟩) (xs := (e_md_function m).2.2.2.1) ⟨(gm_md_pass hi hm hs).cal (by omega) (by omega) q2666,
    (gm_md_need hi hm hs).cal (by omega) (by omega) q2670,
    (gm_md_fails hi hm hs).cal (by omega) (by omega) q2644,
    (gm_md_isWord hi hm hs).cal (by omega) (by omega) q2678,
    (gm_md_take hi hm hs).cal (by omega) (by omega) q2626,
    (gm_md_localOf hi hm hs).cal (by omega) (by omega) q2682,
    (gm_md_newNode hi hm hs).cal (by omega) (by omega) q2686,
    (gm_md_addLocal hi hm hs).cal (by omega) (by omega) q2690,
    (gm_rec_md_block hi hm hs 60).1.cal (by omega) (by omega) q2694,
    trivial⟩ i _ hg⟩) q2665 q242 mh_md ds_26 q2664 qs134
theorem gm_md_readText {l : Launch} {Z : gZ} {m : Nat} (hi : gInj Z) (hm : m ≤ zN Z) (hs : gStop.toNat < zN Z) : gCee l Z yX10_readText (ws_ yX10_readText cX10_readText 1 (Option.none : Option Jvm.ClassFile.FieldType)) 370 9402 1 1 20 5 (.inr (fn_md_readText m)) :=
  gCee.vi (k := 0) (by decide) (gmetG hi hs ⟨plainFor_of_name pn_md, ok_md_readText, hm, Or.inr (Or.inr (Or.inr (Or.inr (Or.inr (Or.inr ⟨rfl, rfl⟩))))), rfl, fun i c k t hg => gall_spec F_md i _ hg, gall_spec C_md, fun i k rc rt f hg => gall_spec (P := gCl l Z "GraftTreesModel" ⟨370, 0, 0, 9402⟩) (xs := (e_md_readText m).2.2.2.1) ⟨(gm_md_take hi hm hs).cal (by omega) (by omega) q2626,
    (gm_md_function hi hm hs).cal (by omega) (by omega) q2662,
    trivial⟩ i _ hg⟩) q2625 q242 mh_md ds_26 q2624 qs126
theorem gm_rec_md_number {l : Launch} {Z : gZ} {m : Nat} (hi : gInj Z) (hm : m ≤ zN Z) (hs : gStop.toNat < zN Z) : ∀ d : Nat, gCee l Z yX10_number (ws_ yX10_number cX10_number 4 (Option.none : Option Jvm.ClassFile.FieldType)) (0 + d) (0 + d * 23) 4 2 20 5 (.inl (rec_md_number m d 0))
  | 0 => gCee.vi (k := 1) (by decide) (gMet_none) q2761 q242 mh_md ds_19 q2760 qs158
  | d + 1 => by
    have h := gm_rec_md_number (l := l) hi hm hs d
    exact gCee.vi (k := 1) (by decide) (gmetF hi ⟨plainFor_of_name pn_md, ok_md_number, hm, Or.inr (Or.inr (Or.inr (Or.inr (Or.inr (Or.inr ⟨rfl, rfl⟩))))), rfl, fun i c k t hg => gall_spec F_md i _ hg, gall_spec C_md, fun i k rc rt f hg => gall_spec (P := gCl l Z "GraftTreesModel" ⟨(0 + (d + 1)), 0, 0, (0 + (d + 1) * 23)⟩) (xs := (e_md_number m (rec_md_number m d)).2.2.2.1) ⟨h.cal (by omega) (by omega) q2758,
    trivial⟩ i _ hg⟩) q2761 q242 mh_md ds_19 q2760 qs158
theorem gm_md_numberOf {l : Launch} {Z : gZ} {m : Nat} (hi : gInj Z) (hm : m ≤ zN Z) (hs : gStop.toNat < zN Z) : gCee l Z yX10_numberOf (ws_ yX10_numberOf cX10_numberOf 2 (Option.some Jvm.ClassFile.FieldType.int)) 0 0 2 2 20 0 (.inl (fn_md_numberOf m)) :=
  gCee.vi (k := 1) (by decide) (gmetF hi ⟨plainFor_of_name pn_md, ok_md_numberOf, hm, Or.inr (Or.inr (Or.inl ⟨rfl, rfl⟩)), rfl, fun i c k t hg => gall_spec F_md i _ hg, gall_spec C_md, fun i k rc rt f hg => gall_spec (P := gCl l Z "GraftTreesModel" ⟨0, 0, 0, 0⟩) (xs := (e_md_numberOf m).2.2.2.1) trivial i _ hg⟩) q2769 q242 mh_md ds_16 q2768 qs160
theorem gm_md_fitsLong {l : Launch} {Z : gZ} {m : Nat} (hi : gInj Z) (hm : m ≤ zN Z) (hs : gStop.toNat < zN Z) : gCee l Z yX10_fitsLong (ws_ yX10_fitsLong cX10_fitsLong 3 (Option.some Jvm.ClassFile.FieldType.boolean)) 0 0 3 1 20 0 (.inl (fn_md_fitsLong m)) :=
  gCee.vi (k := 0) (by decide) (gmetF hi ⟨plainFor_of_name pn_md, ok_md_fitsLong, hm, Or.inr (Or.inr (Or.inr (Or.inl ⟨rfl, rfl⟩))), rfl, fun i c k t hg => gall_spec F_md i _ hg, gall_spec C_md, fun i k rc rt f hg => gall_spec (P := gCl l Z "GraftTreesModel" ⟨0, 0, 0, 0⟩) (xs := (e_md_fitsLong m).2.2.2.1) trivial i _ hg⟩) q2778 q242 mh_md ds_14 q2777 qs162
theorem gm_md_asLong {l : Launch} {Z : gZ} {m : Nat} (hi : gInj Z) (hm : m ≤ zN Z) (hs : gStop.toNat < zN Z) : gCee l Z yX10_asLong (ws_ yX10_asLong cX10_asLong 3 (Option.some Jvm.ClassFile.FieldType.long)) 0 0 3 1 20 1 (.inl (fn_md_asLong m)) :=
  gCee.vi (k := 0) (by decide) (gmetF hi ⟨plainFor_of_name pn_md, ok_md_asLong, hm, Or.inr (Or.inr (Or.inr (Or.inr (Or.inl ⟨rfl, rfl⟩)))), rfl, fun i c k t hg => gall_spec F_md i _ hg, gall_spec C_md, fun i k rc rt f hg => gall_spec (P := gCl l Z "GraftTreesModel" ⟨0, 0, 0, 0⟩) (xs := (e_md_asLong m).2.2.2.1) trivial i _ hg⟩) q2784 q242 mh_md ds_55 q2783 qs163
theorem gm_md_number_2 {l : Launch} {Z : gZ} {m : Nat} (hi : gInj Z) (hm : m ≤ zN Z) (hs : gStop.toNat < zN Z) : gCee l Z yX10_number_2 (ws_ yX10_number_2 cX10_number_2 7 (Option.none : Option Jvm.ClassFile.FieldType)) 1 22 7 4 20 5 (.inl (fn_md_number_2 m)) :=
  gCee.vi (k := 3) (by decide) (gmetF hi ⟨plainFor_of_name pn_md, ok_md_number_2, hm, Or.inr (Or.inr (Or.inr (Or.inr (Or.inr (Or.inr ⟨rfl, rfl⟩))))), rfl, fun i c k t hg => gall_spec F_md i _ hg, gall_spec C_md, fun i k rc rt f hg => gall_spec (P := gCl l Z "GraftTreesModel" ⟨1, 0, 0, 22⟩) (xs := (e_md_number_2 m).2.2.2.1) ⟨(gm_md_fitsLong hi hm hs).cal (by omega) (by omega) q2775,
    (gm_md_asLong hi hm hs).cal (by omega) (by omega) q2781,
    trivial⟩ i _ hg⟩) q2773 q242 mh_md ds_36 q2772 qs161
theorem gm_md_lay {l : Launch} {Z : gZ} {m : Nat} (hi : gInj Z) (hm : m ≤ zN Z) (hs : gStop.toNat < zN Z) : gCee l Z yX10_lay (ws_ yX10_lay cX10_lay 6 (Option.none : Option Jvm.ClassFile.FieldType)) 2 53 6 4 20 5 (.inl (fn_md_lay m)) :=
  gCee.vi (k := 3) (by decide) (gmetF hi ⟨plainFor_of_name pn_md, ok_md_lay, hm, Or.inr (Or.inr (Or.inr (Or.inr (Or.inr (Or.inr ⟨rfl, rfl⟩))))), rfl, fun i c k t hg => gall_spec F_md i _ hg, gall_spec C_md, fun i k rc rt f hg => gall_spec (P := gCl l Z "GraftTreesModel" ⟨2, 0, 0, 53⟩) (xs := (e_md_lay m).2.2.2.1) ⟨(gm_md_numberOf hi hm hs).cal (by omega) (by omega) q2766,
    (gm_md_isWord hi hm hs).cal (by omega) (by omega) q2678,
    (gm_md_number_2 hi hm hs).cal (by omega) (by omega) q2770,
    (gm_md_keep_2 hi hm hs).cal (by omega) (by omega) q2073,
    (gm_md_functionOf hi hm hs).cal (by omega) (by omega) q2084,
    trivial⟩ i _ hg⟩) q2765 q242 mh_md ds_36 q2764 qs159
theorem gm_md_define {l : Launch} {Z : gZ} {m : Nat} (hi : gInj Z) (hm : m ≤ zN Z) (hs : gStop.toNat < zN Z) : gCee l Z yX10_define (ws_ yX10_define cX10_define 5 (Option.none : Option Jvm.ClassFile.FieldType)) 321 7383 5 1 20 5 (.inl (fn_md_define m)) :=
  gCee.vi (k := 0) (by decide) (gmetF hi ⟨plainFor_of_name pn_md, ok_md_define, hm, Or.inr (Or.inr (Or.inr (Or.inr (Or.inr (Or.inr ⟨rfl, rfl⟩))))), rfl, fun i c k t hg => gall_spec F_md i _ hg, gall_spec C_md, fun i k rc rt f hg => gall_spec (P := gCl l Z "GraftTreesModel" ⟨321, 0, 0, 7383⟩) (xs := (e_md_define m).2.2.2.1) ⟨(gm_rec_md_number hi hm hs 320).cal (by omega) (by omega) q2758,
    (gm_md_lay hi hm hs).cal (by omega) (by omega) q2762,
    (gm_md_numberOf hi hm hs).cal (by omega) (by omega) q2766,
    (gm_md_keep_2 hi hm hs).cal (by omega) (by omega) q2073,
    (gm_md_functionOf hi hm hs).cal (by omega) (by omega) q2084,
    (gm_md_rootComes hi hm hs).cal (by omega) (by omega) q2088,
    trivial⟩ i _ hg⟩) q2757 q242 mh_md ds_26 q2756 qs157
theorem gm_md_load {l : Launch} {Z : gZ} {m : Nat} (hi : gInj Z) (hm : m ≤ zN Z) (hs : gStop.toNat < zN Z) : gCee l Z yX10_load (wsW_ yX10_load cX10_load 3 (Option.some Jvm.ClassFile.FieldType.int) [(54, 58, 61, 7)]) 371 9422 3 2 20 0 (.inl (fn_md_load m)) :=
  gCee.viH (k := 1) (by decide) (gmetFH hi hs ⟨plainFor_of_name pn_md, ok_md_load, hm, Or.inr (Or.inr (Or.inl ⟨rfl, rfl⟩)), ⟨rfl, by decide, rfl, q1993⟩, fun i c k t hg => gall_spec F_md i _ hg, gall_spec C_md, fun i k rc rt f hg => gall_spec (P := gCl l Z "GraftTreesModel" ⟨371, 0, 0, 9422⟩) (xs := (e_md_load m).2.2.2.1) ⟨(gm_md_noRun hi hm hs).cal (by omega) (by omega) q2618,
    (gm_md_readText hi hm hs).cal (by omega) (by omega) q2622,
    (gm_md_houseBegins hi hm hs).cal (by omega) (by omega) q2059,
    (gm_md_define hi hm hs).cal (by omega) (by omega) q2754,
    trivial⟩ i _ hg⟩) q2617 q242 mh_md ds_16 q2615 q2616
theorem gm_md_fault {l : Launch} {Z : gZ} {m : Nat} (hi : gInj Z) (hm : m ≤ zN Z) (hs : gStop.toNat < zN Z) : gCee l Z yX10_fault (ws_ yX10_fault cX10_fault 2 (Option.some Jvm.ClassFile.FieldType.int)) 0 0 2 2 20 0 (.inl (fn_md_fault m)) :=
  gCee.vi (k := 1) (by decide) (gmetF hi ⟨plainFor_of_name pn_md, ok_md_fault, hm, Or.inr (Or.inr (Or.inl ⟨rfl, rfl⟩)), rfl, fun i c k t hg => gall_spec F_md i _ hg, gall_spec C_md, fun i k rc rt f hg => gall_spec (P := gCl l Z "GraftTreesModel" ⟨0, 0, 0, 0⟩) (xs := (e_md_fault m).2.2.2.1) trivial i _ hg⟩) q2789 q242 mh_md ds_16 q2787 q2788
theorem gm_md_push {l : Launch} {Z : gZ} {m : Nat} (hi : gInj Z) (hm : m ≤ zN Z) (hs : gStop.toNat < zN Z) : gCee l Z yX10_push (ws_ yX10_push cX10_push 4 (Option.none : Option Jvm.ClassFile.FieldType)) 0 0 4 3 20 5 (.inl (fn_md_push m)) :=
  gCee.vi (k := 2) (by decide) (gmetF hi ⟨plainFor_of_name pn_md, ok_md_push, hm, Or.inr (Or.inr (Or.inr (Or.inr (Or.inr (Or.inr ⟨rfl, rfl⟩))))), rfl, fun i c k t hg => gall_spec F_md i _ hg, gall_spec C_md, fun i k rc rt f hg => gall_spec (P := gCl l Z "GraftTreesModel" ⟨0, 0, 0, 0⟩) (xs := (e_md_push m).2.2.2.1) trivial i _ hg⟩) q2798 q242 mh_md ds_43 q2797 qs164
theorem gm_md_more {l : Launch} {Z : gZ} {m : Nat} (hi : gInj Z) (hm : m ≤ zN Z) (hs : gStop.toNat < zN Z) : gCee l Z yX10_more (ws_ yX10_more cX10_more 1 (Option.some Jvm.ClassFile.FieldType.int)) 0 0 1 1 0 0 (.inl (fn_md_more m)) :=
  gCee.st (k := 1) (gmetF hi ⟨plainFor_of_name pn_md, ok_md_more, hm, Or.inr (Or.inr (Or.inl ⟨rfl, rfl⟩)), rfl, fun i c k t hg => gall_spec F_md i _ hg, gall_spec C_md, fun i k rc rt f hg => gall_spec (P := gCl l Z "GraftTreesModel" ⟨0, 0, 0, 0⟩) (xs := (e_md_more m).2.2.2.1) trivial i _ hg⟩) q2805 q242 mh_md ds_16 q2804
theorem gm_md_unitAt {l : Launch} {Z : gZ} {m : Nat} (hi : gInj Z) (hm : m ≤ zN Z) (hs : gStop.toNat < zN Z) : gCee l Z yX10_unitAt (ws_ yX10_unitAt cX10_unitAt 5 (Option.some Jvm.ClassFile.FieldType.int)) 1 22 5 4 20 0 (.inl (fn_md_unitAt m)) :=
  gCee.vi (k := 3) (by decide) (gmetF hi ⟨plainFor_of_name pn_md, ok_md_unitAt, hm, Or.inr (Or.inr (Or.inl ⟨rfl, rfl⟩)), rfl, fun i c k t hg => gall_spec F_md i _ hg, gall_spec C_md, fun i k rc rt f hg => gall_spec (P := gCl l Z "GraftTreesModel" ⟨1, 0, 0, 22⟩) (xs := (e_md_unitAt m).2.2.2.1) ⟨(gm_md_unit hi hm hs).cal (by omega) (by omega) q2096,
    trivial⟩ i _ hg⟩) q2809 q242 mh_md ds_35 q2808 qs166
theorem gm_md_heat {l : Launch} {Z : gZ} {m : Nat} (hi : gInj Z) (hm : m ≤ zN Z) (hs : gStop.toNat < zN Z) : gCee l Z yX10_heat (ws_ yX10_heat cX10_heat 3 (Option.none : Option Jvm.ClassFile.FieldType)) 1 21 3 2 20 5 (.inl (fn_md_heat m)) :=
  gCee.vi (k := 1) (by decide) (gmetF hi ⟨plainFor_of_name pn_md, ok_md_heat, hm, Or.inr (Or.inr (Or.inr (Or.inr (Or.inr (Or.inr ⟨rfl, rfl⟩))))), rfl, fun i c k t hg => gall_spec F_md i _ hg, gall_spec C_md, fun i k rc rt f hg => gall_spec (P := gCl l Z "GraftTreesModel" ⟨1, 0, 0, 21⟩) (xs := (e_md_heat m).2.2.2.1) ⟨(gm_md_more hi hm hs).cal (by omega) (by omega) q2803,
    (gm_md_isNewest hi hm hs).cal (by omega) (by omega) q2585,
    trivial⟩ i _ hg⟩) q2813 q242 mh_md ds_19 q2812 qs167
theorem gm_md_enterCode {l : Launch} {Z : gZ} {m : Nat} (hi : gInj Z) (hm : m ≤ zN Z) (hs : gStop.toNat < zN Z) : gCee l Z yX10_enterCode (ws_ yX10_enterCode cX10_enterCode 3 (Option.none : Option Jvm.ClassFile.FieldType)) 1 20 3 2 20 5 (.inl (fn_md_enterCode m)) :=
  gCee.vi (k := 1) (by decide) (gmetF hi ⟨plainFor_of_name pn_md, ok_md_enterCode, hm, Or.inr (Or.inr (Or.inr (Or.inr (Or.inr (Or.inr ⟨rfl, rfl⟩))))), rfl, fun i c k t hg => gall_spec F_md i _ hg, gall_spec C_md, fun i k rc rt f hg => gall_spec (P := gCl l Z "GraftTreesModel" ⟨1, 0, 0, 20⟩) (xs := (e_md_enterCode m).2.2.2.1) ⟨(gm_md_more hi hm hs).cal (by omega) (by omega) q2803,
    trivial⟩ i _ hg⟩) q2817 q242 mh_md ds_19 q2816 qs168
theorem gm_md_has {l : Launch} {Z : gZ} {m : Nat} (hi : gInj Z) (hm : m ≤ zN Z) (hs : gStop.toNat < zN Z) : gCee l Z yX10_has (ws_ yX10_has cX10_has 3 (Option.some Jvm.ClassFile.FieldType.boolean)) 0 0 3 3 20 0 (.inl (fn_md_has m)) :=
  gCee.vi (k := 2) (by decide) (gmetF hi ⟨plainFor_of_name pn_md, ok_md_has, hm, Or.inr (Or.inr (Or.inr (Or.inl ⟨rfl, rfl⟩))), rfl, fun i c k t hg => gall_spec F_md i _ hg, gall_spec C_md, fun i k rc rt f hg => gall_spec (P := gCl l Z "GraftTreesModel" ⟨0, 0, 0, 0⟩) (xs := (e_md_has m).2.2.2.1) trivial i _ hg⟩) q2825 q242 mh_md ds_31 q2824 qs170
theorem gm_md_may {l : Launch} {Z : gZ} {m : Nat} (hi : gInj Z) (hm : m ≤ zN Z) (hs : gStop.toNat < zN Z) : gCee l Z yX10_may (ws_ yX10_may cX10_may 3 (Option.some Jvm.ClassFile.FieldType.boolean)) 0 0 3 3 20 0 (.inl (fn_md_may m)) :=
  gCee.vi (k := 2) (by decide) (gmetF hi ⟨plainFor_of_name pn_md, ok_md_may, hm, Or.inr (Or.inr (Or.inr (Or.inl ⟨rfl, rfl⟩))), rfl, fun i c k t hg => gall_spec F_md i _ hg, gall_spec C_md, fun i k rc rt f hg => gall_spec (P := gCl l Z "GraftTreesModel" ⟨0, 0, 0, 0⟩) (xs := (e_md_may m).2.2.2.1) trivial i _ hg⟩) q2833 q242 mh_md ds_31 q2832 qs172
theorem gm_md_leave {l : Launch} {Z : gZ} {m : Nat} (hi : gInj Z) (hm : m ≤ zN Z) (hs : gStop.toNat < zN Z) : gCee l Z yX10_leave (ws_ yX10_leave cX10_leave 3 (Option.none : Option Jvm.ClassFile.FieldType)) 0 0 3 2 20 5 (.inl (fn_md_leave m)) :=
  gCee.vi (k := 1) (by decide) (gmetF hi ⟨plainFor_of_name pn_md, ok_md_leave, hm, Or.inr (Or.inr (Or.inr (Or.inr (Or.inr (Or.inr ⟨rfl, rfl⟩))))), rfl, fun i c k t hg => gall_spec F_md i _ hg, gall_spec C_md, fun i k rc rt f hg => gall_spec (P := gCl l Z "GraftTreesModel" ⟨0, 0, 0, 0⟩) (xs := (e_md_leave m).2.2.2.1) trivial i _ hg⟩) q2845 q242 mh_md ds_19 q2844 qs175
theorem gm_md_endCodesOfRoot {l : Launch} {Z : gZ} {m : Nat} (hi : gInj Z) (hm : m ≤ zN Z) (hs : gStop.toNat < zN Z) : gCee l Z yX10_endCodesOfRoot (ws_ yX10_endCodesOfRoot cX10_endCodesOfRoot 5 (Option.none : Option Jvm.ClassFile.FieldType)) 1 22 5 2 20 5 (.inl (fn_md_endCodesOfRoot m)) :=
  gCee.vi (k := 1) (by decide) (gmetF hi ⟨plainFor_of_name pn_md, ok_md_endCodesOfRoot, hm, Or.inr (Or.inr (Or.inr (Or.inr (Or.inr (Or.inr ⟨rfl, rfl⟩))))), rfl, fun i c k t hg => gall_spec F_md i _ hg, gall_spec C_md, fun i k rc rt f hg => gall_spec (P := gCl l Z "GraftTreesModel" ⟨1, 0, 0, 22⟩) (xs := (e_md_endCodesOfRoot m).2.2.2.1) ⟨(gm_md_unit hi hm hs).cal (by omega) (by omega) q2096,
    (gm_md_endCode hi hm hs).cal (by omega) (by omega) q2100,
    trivial⟩ i _ hg⟩) q2849 q242 mh_md ds_19 q2848 qs176
theorem gm_md_changing {l : Launch} {Z : gZ} {m : Nat} (hi : gInj Z) (hm : m ≤ zN Z) (hs : gStop.toNat < zN Z) : gCee l Z yX10_changing (ws_ yX10_changing cX10_changing 3 (Option.none : Option Jvm.ClassFile.FieldType)) 2 46 3 2 20 5 (.inl (fn_md_changing m)) :=
  gCee.vi (k := 1) (by decide) (gmetF hi ⟨plainFor_of_name pn_md, ok_md_changing, hm, Or.inr (Or.inr (Or.inr (Or.inr (Or.inr (Or.inr ⟨rfl, rfl⟩))))), rfl, fun i c k t hg => gall_spec F_md i _ hg, gall_spec C_md, fun i k rc rt f hg => gall_spec (P := gCl l Z "GraftTreesModel" ⟨2, 0, 0, 46⟩) (xs := (e_md_changing m).2.2.2.1) ⟨(gm_md_leave hi hm hs).cal (by omega) (by omega) q2842,
    (gm_md_endCodesOfRoot hi hm hs).cal (by omega) (by omega) q2846,
    trivial⟩ i _ hg⟩) q2841 q242 mh_md ds_19 q2840 qs174
theorem gm_md_settle {l : Launch} {Z : gZ} {m : Nat} (hi : gInj Z) (hm : m ≤ zN Z) (hs : gStop.toNat < zN Z) : gCee l Z yX10_settle (ws_ yX10_settle cX10_settle 4 (Option.none : Option Jvm.ClassFile.FieldType)) 3 68 4 4 20 5 (.inl (fn_md_settle m)) :=
  gCee.vi (k := 3) (by decide) (gmetF hi ⟨plainFor_of_name pn_md, ok_md_settle, hm, Or.inr (Or.inr (Or.inr (Or.inr (Or.inr (Or.inr ⟨rfl, rfl⟩))))), rfl, fun i c k t hg => gall_spec F_md i _ hg, gall_spec C_md, fun i k rc rt f hg => gall_spec (P := gCl l Z "GraftTreesModel" ⟨3, 0, 0, 68⟩) (xs := (e_md_settle m).2.2.2.1) ⟨(gm_md_changing hi hm hs).cal (by omega) (by omega) q2838,
    trivial⟩ i _ hg⟩) q2837 q242 mh_md ds_45 q2836 qs173
theorem gm_md_setsAnew {l : Launch} {Z : gZ} {m : Nat} (hi : gInj Z) (hm : m ≤ zN Z) (hs : gStop.toNat < zN Z) : gCee l Z yX10_setsAnew (ws_ yX10_setsAnew cX10_setsAnew 6 (Option.some Jvm.ClassFile.FieldType.int)) 4 91 6 4 20 0 (.inl (fn_md_setsAnew m)) :=
  gCee.vi (k := 3) (by decide) (gmetF hi ⟨plainFor_of_name pn_md, ok_md_setsAnew, hm, Or.inr (Or.inr (Or.inl ⟨rfl, rfl⟩)), rfl, fun i c k t hg => gall_spec F_md i _ hg, gall_spec C_md, fun i k rc rt f hg => gall_spec (P := gCl l Z "GraftTreesModel" ⟨4, 0, 0, 91⟩) (xs := (e_md_setsAnew m).2.2.2.1) ⟨(gm_md_may hi hm hs).cal (by omega) (by omega) q2830,
    (gm_md_settle hi hm hs).cal (by omega) (by omega) q2834,
    trivial⟩ i _ hg⟩) q2829 q242 mh_md ds_35 q2828 qs171
theorem gm_md_sets {l : Launch} {Z : gZ} {m : Nat} (hi : gInj Z) (hm : m ≤ zN Z) (hs : gStop.toNat < zN Z) : gCee l Z yX10_sets (ws_ yX10_sets cX10_sets 9 (Option.none : Option Jvm.ClassFile.FieldType)) 5 116 9 4 20 5 (.inl (fn_md_sets m)) :=
  gCee.vi (k := 3) (by decide) (gmetF hi ⟨plainFor_of_name pn_md, ok_md_sets, hm, Or.inr (Or.inr (Or.inr (Or.inr (Or.inr (Or.inr ⟨rfl, rfl⟩))))), rfl, fun i c k t hg => gall_spec F_md i _ hg, gall_spec C_md, fun i k rc rt f hg => gall_spec (P := gCl l Z "GraftTreesModel" ⟨5, 0, 0, 116⟩) (xs := (e_md_sets m).2.2.2.1) ⟨(gm_md_has hi hm hs).cal (by omega) (by omega) q2822,
    (gm_md_setsAnew hi hm hs).cal (by omega) (by omega) q2826,
    trivial⟩ i _ hg⟩) q2821 q242 mh_md ds_39 q2820 qs169
theorem gm_md_task {l : Launch} {Z : gZ} {m : Nat} (hi : gInj Z) (hm : m ≤ zN Z) (hs : gStop.toNat < zN Z) : gCee l Z yX10_task (ws_ yX10_task cX10_task 3 (Option.none : Option Jvm.ClassFile.FieldType)) 0 0 3 3 20 5 (.inl (fn_md_task m)) :=
  gCee.vi (k := 2) (by decide) (gmetF hi ⟨plainFor_of_name pn_md, ok_md_task, hm, Or.inr (Or.inr (Or.inr (Or.inr (Or.inr (Or.inr ⟨rfl, rfl⟩))))), rfl, fun i c k t hg => gall_spec F_md i _ hg, gall_spec C_md, fun i k rc rt f hg => gall_spec (P := gCl l Z "GraftTreesModel" ⟨0, 0, 0, 0⟩) (xs := (e_md_task m).2.2.2.1) trivial i _ hg⟩) q2853 q242 mh_md ds_6 q2852 qs177
theorem gm_md_activate {l : Launch} {Z : gZ} {m : Nat} (hi : gInj Z) (hm : m ≤ zN Z) (hs : gStop.toNat < zN Z) : gCee l Z yX10_activate (ws_ yX10_activate cX10_activate 9 (Option.none : Option Jvm.ClassFile.FieldType)) 6 144 9 5 20 5 (.inl (fn_md_activate m)) :=
  gCee.vi (k := 4) (by decide) (gmetF hi ⟨plainFor_of_name pn_md, ok_md_activate, hm, Or.inr (Or.inr (Or.inr (Or.inr (Or.inr (Or.inr ⟨rfl, rfl⟩))))), rfl, fun i c k t hg => gall_spec F_md i _ hg, gall_spec C_md, fun i k rc rt f hg => gall_spec (P := gCl l Z "GraftTreesModel" ⟨6, 0, 0, 144⟩) (xs := (e_md_activate m).2.2.2.1) ⟨(gm_md_more hi hm hs).cal (by omega) (by omega) q2803,
    (gm_jm_max hi (Nat.zero_le _)).cal (by omega) (by omega) q2605,
    (gm_md_unitAt hi hm hs).cal (by omega) (by omega) q2806,
    (gm_md_heat hi hm hs).cal (by omega) (by omega) q2810,
    (gm_md_enterCode hi hm hs).cal (by omega) (by omega) q2814,
    (gm_md_sets hi hm hs).cal (by omega) (by omega) q2818,
    (gm_md_task hi hm hs).cal (by omega) (by omega) q2850,
    trivial⟩ i _ hg⟩) q2802 q242 mh_md ds_42 q2801 qs165
theorem gm_md_falls {l : Launch} {Z : gZ} {m : Nat} (hi : gInj Z) (hm : m ≤ zN Z) (hs : gStop.toNat < zN Z) : gCee l Z yX10_falls (ws_ yX10_falls cX10_falls 2 (Option.none : Option Jvm.ClassFile.FieldType)) 1 22 2 1 20 5 (.inl (fn_md_falls m)) :=
  gCee.vi (k := 0) (by decide) (gmetF hi ⟨plainFor_of_name pn_md, ok_md_falls, hm, Or.inr (Or.inr (Or.inr (Or.inr (Or.inr (Or.inr ⟨rfl, rfl⟩))))), rfl, fun i c k t hg => gall_spec F_md i _ hg, gall_spec C_md, fun i k rc rt f hg => gall_spec (P := gCl l Z "GraftTreesModel" ⟨1, 0, 0, 22⟩) (xs := (e_md_falls m).2.2.2.1) ⟨(gm_md_leave hi hm hs).cal (by omega) (by omega) q2842,
    trivial⟩ i _ hg⟩) q2873 q242 mh_md ds_26 q2872 qs182
theorem gm_md_comesBack {l : Launch} {Z : gZ} {m : Nat} (hi : gInj Z) (hm : m ≤ zN Z) (hs : gStop.toNat < zN Z) : gCee l Z yX10_comesBack (ws_ yX10_comesBack cX10_comesBack 5 (Option.none : Option Jvm.ClassFile.FieldType)) 2 43 5 3 20 5 (.inl (fn_md_comesBack m)) :=
  gCee.vi (k := 2) (by decide) (gmetF hi ⟨plainFor_of_name pn_md, ok_md_comesBack, hm, Or.inr (Or.inr (Or.inr (Or.inr (Or.inr (Or.inr ⟨rfl, rfl⟩))))), rfl, fun i c k t hg => gall_spec F_md i _ hg, gall_spec C_md, fun i k rc rt f hg => gall_spec (P := gCl l Z "GraftTreesModel" ⟨2, 0, 0, 43⟩) (xs := (e_md_comesBack m).2.2.2.1) ⟨(gm_md_push hi hm hs).cal (by omega) (by omega) q2795,
    (gm_md_falls hi hm hs).cal (by omega) (by omega) q2870,
    trivial⟩ i _ hg⟩) q2869 q242 mh_md ds_43 q2868 qs181
theorem gm_md_error {l : Launch} {Z : gZ} {m : Nat} (hi : gInj Z) (hm : m ≤ zN Z) (hs : gStop.toNat < zN Z) : gCee l Z yX10_error (ws_ yX10_error cX10_error 3 (Option.some (Jvm.ClassFile.FieldType.object "GraftTreesModel$Stop"))) 0 0 3 3 20 2 (.inl (fn_md_error m)) :=
  gCee.vi (k := 2) (by decide) (gmetF hi ⟨plainFor_of_name pn_md, ok_md_error, hm, Or.inr (Or.inr (Or.inr (Or.inr (Or.inr (Or.inl ⟨rfl, _, rfl⟩))))), rfl, fun i c k t hg => gall_spec F_md i _ hg, gall_spec C_md, fun i k rc rt f hg => gall_spec (P := gCl l Z "GraftTreesModel" ⟨0, 0, 0, 0⟩) (xs := (e_md_error m).2.2.2.1) trivial i _ hg⟩) q2881 q242 mh_md ds_54 q2880 qs184
theorem gm_md_step {l : Launch} {Z : gZ} {m : Nat} (hi : gInj Z) (hm : m ≤ zN Z) (hs : gStop.toNat < zN Z) : gCee l Z yX10_step (ws_ yX10_step cX10_step 2 (Option.some Jvm.ClassFile.FieldType.boolean)) 1 22 2 2 20 0 (.inr (fn_md_step m)) :=
  gCee.vi (k := 1) (by decide) (gmetG hi hs ⟨plainFor_of_name pn_md, ok_md_step, hm, Or.inr (Or.inr (Or.inr (Or.inl ⟨rfl, rfl⟩))), rfl, fun i c k t hg => gall_spec F_md i _ hg, gall_spec C_md, fun i k rc rt f hg => gall_spec (P := gCl l Z "GraftTreesModel" ⟨1, 0, 0, 22⟩) (xs := (e_md_step m).2.2.2.1) ⟨(gm_md_error hi hm hs).cal (by omega) (by omega) q2878,
    trivial⟩ i _ hg⟩) q2877 q242 mh_md ds_8 q2876 qs183
theorem gm_md_row {l : Launch} {Z : gZ} {m : Nat} (hi : gInj Z) (hm : m ≤ zN Z) (hs : gStop.toNat < zN Z) : gCee l Z yX10_row (ws_ yX10_row cX10_row 3 (Option.none : Option Jvm.ClassFile.FieldType)) 3 67 3 2 20 5 (.inr (fn_md_row m)) :=
  gCee.vi (k := 1) (by decide) (gmetG hi hs ⟨plainFor_of_name pn_md, ok_md_row, hm, Or.inr (Or.inr (Or.inr (Or.inr (Or.inr (Or.inr ⟨rfl, rfl⟩))))), rfl, fun i c k t hg => gall_spec F_md i _ hg, gall_spec C_md, fun i k rc rt f hg => gall_spec (P := gCl l Z "GraftTreesModel" ⟨3, 0, 0, 67⟩) (xs := (e_md_row m).2.2.2.1) ⟨(gm_md_comesBack hi hm hs).cal (by omega) (by omega) q2866,
    (gm_md_step hi hm hs).cal (by omega) (by omega) q2874,
    (gm_md_falls hi hm hs).cal (by omega) (by omega) q2870,
    (gm_md_task hi hm hs).cal (by omega) (by omega) q2850,
    trivial⟩ i _ hg⟩) q2865 q242 mh_md ds_19 q2864 qs180
theorem gm_md_sizeOf {l : Launch} {Z : gZ} {m : Nat} (hi : gInj Z) (hm : m ≤ zN Z) (hs : gStop.toNat < zN Z) : gCee l Z yX10_sizeOf (ws_ yX10_sizeOf cX10_sizeOf 3 (Option.some Jvm.ClassFile.FieldType.int)) 0 0 3 2 20 0 (.inl (fn_md_sizeOf m)) :=
  gCee.vi (k := 1) (by decide) (gmetF hi ⟨plainFor_of_name pn_md, ok_md_sizeOf, hm, Or.inr (Or.inr (Or.inl ⟨rfl, rfl⟩)), rfl, fun i c k t hg => gall_spec F_md i _ hg, gall_spec C_md, fun i k rc rt f hg => gall_spec (P := gCl l Z "GraftTreesModel" ⟨0, 0, 0, 0⟩) (xs := (e_md_sizeOf m).2.2.2.1) trivial i _ hg⟩) q2905 q242 mh_md ds_3 q2904 qs190
theorem gm_md_letter {l : Launch} {Z : gZ} {m : Nat} (hi : gInj Z) (hm : m ≤ zN Z) (hs : gStop.toNat < zN Z) : gCee l Z yX10_letter (ws_ yX10_letter cX10_letter 4 (Option.some Jvm.ClassFile.FieldType.int)) 1 22 4 3 20 0 (.inl (fn_md_letter m)) :=
  gCee.vi (k := 2) (by decide) (gmetF hi ⟨plainFor_of_name pn_md, ok_md_letter, hm, Or.inr (Or.inr (Or.inl ⟨rfl, rfl⟩)), rfl, fun i c k t hg => gall_spec F_md i _ hg, gall_spec C_md, fun i k rc rt f hg => gall_spec (P := gCl l Z "GraftTreesModel" ⟨1, 0, 0, 22⟩) (xs := (e_md_letter m).2.2.2.1) ⟨(gm_md_sizeOf hi hm hs).cal (by omega) (by omega) q2902,
    trivial⟩ i _ hg⟩) q2909 q242 mh_md ds_56 q2908 qs191
theorem gm_md_write {l : Launch} {Z : gZ} {m : Nat} (hi : gInj Z) (hm : m ≤ zN Z) (hs : gStop.toNat < zN Z) : gCee l Z yX10_write (ws_ yX10_write cX10_write 4 (Option.none : Option Jvm.ClassFile.FieldType)) 2 45 4 2 20 5 (.inl (fn_md_write m)) :=
  gCee.vi (k := 1) (by decide) (gmetF hi ⟨plainFor_of_name pn_md, ok_md_write, hm, Or.inr (Or.inr (Or.inr (Or.inr (Or.inr (Or.inr ⟨rfl, rfl⟩))))), rfl, fun i c k t hg => gall_spec F_md i _ hg, gall_spec C_md, fun i k rc rt f hg => gall_spec (P := gCl l Z "GraftTreesModel" ⟨2, 0, 0, 45⟩) (xs := (e_md_write m).2.2.2.1) ⟨(gm_md_sizeOf hi hm hs).cal (by omega) (by omega) q2902,
    (gm_md_letter hi hm hs).cal (by omega) (by omega) q2906,
    trivial⟩ i _ hg⟩) q2901 q242 mh_md ds_18 q2900 qs189
theorem gm_md_spread {l : Launch} {Z : gZ} {m : Nat} (hi : gInj Z) (hm : m ≤ zN Z) (hs : gStop.toNat < zN Z) : gCee l Z yX10_spread (ws_ yX10_spread cX10_spread 9 (Option.none : Option Jvm.ClassFile.FieldType)) 0 0 9 4 20 5 (.inl (fn_md_spread m)) :=
  gCee.vi (k := 3) (by decide) (gmetF hi ⟨plainFor_of_name pn_md, ok_md_spread, hm, Or.inr (Or.inr (Or.inr (Or.inr (Or.inr (Or.inr ⟨rfl, rfl⟩))))), rfl, fun i c k t hg => gall_spec F_md i _ hg, gall_spec C_md, fun i k rc rt f hg => gall_spec (P := gCl l Z "GraftTreesModel" ⟨0, 0, 0, 0⟩) (xs := (e_md_spread m).2.2.2.1) trivial i _ hg⟩) q2917 q242 mh_md ds_57 q2916 qs193
theorem gm_md_digits {l : Launch} {Z : gZ} {m : Nat} (hi : gInj Z) (hm : m ≤ zN Z) (hs : gStop.toNat < zN Z) : gCee l Z yX10_digits (ws_ yX10_digits cX10_digits 8 (Option.none : Option Jvm.ClassFile.FieldType)) 1 28 8 3 20 5 (.inl (fn_md_digits m)) :=
  gCee.vi (k := 2) (by decide) (gmetF hi ⟨plainFor_of_name pn_md, ok_md_digits, hm, Or.inr (Or.inr (Or.inr (Or.inr (Or.inr (Or.inr ⟨rfl, rfl⟩))))), rfl, fun i c k t hg => gall_spec F_md i _ hg, gall_spec C_md, fun i k rc rt f hg => gall_spec (P := gCl l Z "GraftTreesModel" ⟨1, 0, 0, 28⟩) (xs := (e_md_digits m).2.2.2.1) ⟨(gm_md_spread hi hm hs).cal (by omega) (by omega) q2914,
    trivial⟩ i _ hg⟩) q2913 q242 mh_md ds_43 q2912 qs192
theorem gm_md_show {l : Launch} {Z : gZ} {m : Nat} (hi : gInj Z) (hm : m ≤ zN Z) (hs : gStop.toNat < zN Z) : gCee l Z yX10_show (ws_ yX10_show cX10_show 4 (Option.none : Option Jvm.ClassFile.FieldType)) 3 68 4 3 20 5 (.inl (fn_md_show m)) :=
  gCee.vi (k := 2) (by decide) (gmetF hi ⟨plainFor_of_name pn_md, ok_md_show, hm, Or.inr (Or.inr (Or.inr (Or.inr (Or.inr (Or.inr ⟨rfl, rfl⟩))))), rfl, fun i c k t hg => gall_spec F_md i _ hg, gall_spec C_md, fun i k rc rt f hg => gall_spec (P := gCl l Z "GraftTreesModel" ⟨3, 0, 0, 68⟩) (xs := (e_md_show m).2.2.2.1) ⟨(gm_md_write hi hm hs).cal (by omega) (by omega) q2898,
    (gm_md_digits hi hm hs).cal (by omega) (by omega) q2910,
    trivial⟩ i _ hg⟩) q2897 q242 mh_md ds_43 q2896 qs188
theorem gm_md_rowOfRun {l : Launch} {Z : gZ} {m : Nat} (hi : gInj Z) (hm : m ≤ zN Z) (hs : gStop.toNat < zN Z) : gCee l Z yX10_rowOfRun (ws_ yX10_rowOfRun cX10_rowOfRun 5 (Option.some Jvm.ClassFile.FieldType.int)) 1 27 5 2 20 0 (.inl (fn_md_rowOfRun m)) :=
  gCee.vi (k := 1) (by decide) (gmetF hi ⟨plainFor_of_name pn_md, ok_md_rowOfRun, hm, Or.inr (Or.inr (Or.inl ⟨rfl, rfl⟩)), rfl, fun i c k t hg => gall_spec F_md i _ hg, gall_spec C_md, fun i k rc rt f hg => gall_spec (P := gCl l Z "GraftTreesModel" ⟨1, 0, 0, 27⟩) (xs := (e_md_rowOfRun m).2.2.2.1) ⟨(gm_md_hash hi hm hs).cal (by omega) (by omega) q2077,
    (gm_md_find hi hm hs).cal (by omega) (by omega) q2080,
    trivial⟩ i _ hg⟩) q2923 q242 mh_md ds_16 q2922 qs194
theorem gm_md_pairBecomes {l : Launch} {Z : gZ} {m : Nat} (hi : gInj Z) (hm : m ≤ zN Z) (hs : gStop.toNat < zN Z) : gCee l Z yX10_pairBecomes (ws_ yX10_pairBecomes cX10_pairBecomes 4 (Option.none : Option Jvm.ClassFile.FieldType)) 1 23 4 3 20 5 (.inl (fn_md_pairBecomes m)) :=
  gCee.vi (k := 2) (by decide) (gmetF hi ⟨plainFor_of_name pn_md, ok_md_pairBecomes, hm, Or.inr (Or.inr (Or.inr (Or.inr (Or.inr (Or.inr ⟨rfl, rfl⟩))))), rfl, fun i c k t hg => gall_spec F_md i _ hg, gall_spec C_md, fun i k rc rt f hg => gall_spec (P := gCl l Z "GraftTreesModel" ⟨1, 0, 0, 23⟩) (xs := (e_md_pairBecomes m).2.2.2.1) ⟨(gm_md_push hi hm hs).cal (by omega) (by omega) q2795,
    trivial⟩ i _ hg⟩) q2927 q242 mh_md ds_43 q2926 qs195
theorem gm_md_joins {l : Launch} {Z : gZ} {m : Nat} (hi : gInj Z) (hm : m ≤ zN Z) (hs : gStop.toNat < zN Z) : gCee l Z yX10_joins (ws_ yX10_joins cX10_joins 2 (Option.none : Option Jvm.ClassFile.FieldType)) 4 91 2 2 20 5 (.inr (fn_md_joins m)) :=
  gCee.vi (k := 1) (by decide) (gmetG hi hs ⟨plainFor_of_name pn_md, ok_md_joins, hm, Or.inr (Or.inr (Or.inr (Or.inr (Or.inr (Or.inr ⟨rfl, rfl⟩))))), rfl, fun i c k t hg => gall_spec F_md i _ hg, gall_spec C_md, fun i k rc rt f hg => gall_spec (P := gCl l Z "GraftTreesModel" ⟨4, 0, 0, 91⟩) (xs := (e_md_joins m).2.2.2.1) ⟨(gm_md_error hi hm hs).cal (by omega) (by omega) q2878,
    (gm_md_show hi hm hs).cal (by omega) (by omega) q2894,
    (gm_md_has hi hm hs).cal (by omega) (by omega) q2822,
    (gm_md_settle hi hm hs).cal (by omega) (by omega) q2834,
    (gm_md_rowOfRun hi hm hs).cal (by omega) (by omega) q2920,
    (gm_md_pairBecomes hi hm hs).cal (by omega) (by omega) q2924,
    trivial⟩ i _ hg⟩) q2893 q242 mh_md ds_19 q2892 qs187
theorem gm_md_isNumber {l : Launch} {Z : gZ} {m : Nat} (hi : gInj Z) (hm : m ≤ zN Z) (hs : gStop.toNat < zN Z) : gCee l Z yX10_isNumber (ws_ yX10_isNumber cX10_isNumber 1 (Option.some Jvm.ClassFile.FieldType.boolean)) 0 0 1 1 0 0 (.inl (fn_md_isNumber m)) :=
  gCee.st (k := 1) (gmetF hi ⟨plainFor_of_name pn_md, ok_md_isNumber, hm, Or.inr (Or.inr (Or.inr (Or.inl ⟨rfl, rfl⟩))), rfl, fun i c k t hg => gall_spec F_md i _ hg, gall_spec C_md, fun i k rc rt f hg => gall_spec (P := gCl l Z "GraftTreesModel" ⟨0, 0, 0, 0⟩) (xs := (e_md_isNumber m).2.2.2.1) trivial i _ hg⟩) q2930 q242 mh_md ds_8 q2929
theorem gm_md_isZero {l : Launch} {Z : gZ} {m : Nat} (hi : gInj Z) (hm : m ≤ zN Z) (hs : gStop.toNat < zN Z) : gCee l Z yX10_isZero (ws_ yX10_isZero cX10_isZero 1 (Option.some Jvm.ClassFile.FieldType.boolean)) 0 0 1 1 0 0 (.inl (fn_md_isZero m)) :=
  gCee.st (k := 1) (gmetF hi ⟨plainFor_of_name pn_md, ok_md_isZero, hm, Or.inr (Or.inr (Or.inr (Or.inl ⟨rfl, rfl⟩))), rfl, fun i c k t hg => gall_spec F_md i _ hg, gall_spec C_md, fun i k rc rt f hg => gall_spec (P := gCl l Z "GraftTreesModel" ⟨0, 0, 0, 0⟩) (xs := (e_md_isZero m).2.2.2.1) trivial i _ hg⟩) q2933 q242 mh_md ds_58 q2932
theorem gm_md_compareSizes {l : Launch} {Z : gZ} {m : Nat} (hi : gInj Z) (hm : m ≤ zN Z) (hs : gStop.toNat < zN Z) : gCee l Z yX10_compareSizes (ws_ yX10_compareSizes cX10_compareSizes 3 (Option.some Jvm.ClassFile.FieldType.int)) 0 0 3 2 0 0 (.inl (fn_md_compareSizes m)) :=
  gCee.st (k := 2) (gmetF hi ⟨plainFor_of_name pn_md, ok_md_compareSizes, hm, Or.inr (Or.inr (Or.inl ⟨rfl, rfl⟩)), rfl, fun i c k t hg => gall_spec F_md i _ hg, gall_spec C_md, fun i k rc rt f hg => gall_spec (P := gCl l Z "GraftTreesModel" ⟨0, 0, 0, 0⟩) (xs := (e_md_compareSizes m).2.2.2.1) trivial i _ hg⟩) q2941 q242 mh_md ds_59 q2940
theorem gm_md_divides {l : Launch} {Z : gZ} {m : Nat} (hi : gInj Z) (hm : m ≤ zN Z) (hs : gStop.toNat < zN Z) : gCee l Z yX10_divides (ws_ yX10_divides cX10_divides 9 (Option.none : Option Jvm.ClassFile.FieldType)) 1 22 9 1 20 5 (.inl (fn_md_divides m)) :=
  gCee.vi (k := 0) (by decide) (gmetF hi ⟨plainFor_of_name pn_md, ok_md_divides, hm, Or.inr (Or.inr (Or.inr (Or.inr (Or.inr (Or.inr ⟨rfl, rfl⟩))))), rfl, fun i c k t hg => gall_spec F_md i _ hg, gall_spec C_md, fun i k rc rt f hg => gall_spec (P := gCl l Z "GraftTreesModel" ⟨1, 0, 0, 22⟩) (xs := (e_md_divides m).2.2.2.1) ⟨(gm_md_compareSizes hi hm hs).cal (by omega) (by omega) q2939,
    trivial⟩ i _ hg⟩) q2937 q242 mh_md ds_26 q2936 qs196
theorem gm_md_multiplies {l : Launch} {Z : gZ} {m : Nat} (hi : gInj Z) (hm : m ≤ zN Z) (hs : gStop.toNat < zN Z) : gCee l Z yX10_multiplies (ws_ yX10_multiplies cX10_multiplies 3 (Option.some Jvm.ClassFile.FieldType.boolean)) 0 0 3 1 20 0 (.inl (fn_md_multiplies m)) :=
  gCee.vi (k := 0) (by decide) (gmetF hi ⟨plainFor_of_name pn_md, ok_md_multiplies, hm, Or.inr (Or.inr (Or.inr (Or.inl ⟨rfl, rfl⟩))), rfl, fun i c k t hg => gall_spec F_md i _ hg, gall_spec C_md, fun i k rc rt f hg => gall_spec (P := gCl l Z "GraftTreesModel" ⟨0, 0, 0, 0⟩) (xs := (e_md_multiplies m).2.2.2.1) trivial i _ hg⟩) q2945 q242 mh_md ds_14 q2944 qs197
theorem gm_md_adds {l : Launch} {Z : gZ} {m : Nat} (hi : gInj Z) (hm : m ≤ zN Z) (hs : gStop.toNat < zN Z) : gCee l Z yX10_adds (ws_ yX10_adds cX10_adds 7 (Option.some Jvm.ClassFile.FieldType.boolean)) 1 22 7 1 20 0 (.inl (fn_md_adds m)) :=
  gCee.vi (k := 0) (by decide) (gmetF hi ⟨plainFor_of_name pn_md, ok_md_adds, hm, Or.inr (Or.inr (Or.inr (Or.inl ⟨rfl, rfl⟩))), rfl, fun i c k t hg => gall_spec F_md i _ hg, gall_spec C_md, fun i k rc rt f hg => gall_spec (P := gCl l Z "GraftTreesModel" ⟨1, 0, 0, 22⟩) (xs := (e_md_adds m).2.2.2.1) ⟨(gm_md_compareSizes hi hm hs).cal (by omega) (by omega) q2939,
    trivial⟩ i _ hg⟩) q2949 q242 mh_md ds_14 q2948 qs198
theorem gm_md_reckons {l : Launch} {Z : gZ} {m : Nat} (hi : gInj Z) (hm : m ≤ zN Z) (hs : gStop.toNat < zN Z) : gCee l Z yX10_reckons (ws_ yX10_reckons cX10_reckons 10 (Option.none : Option Jvm.ClassFile.FieldType)) 5 112 10 3 20 5 (.inr (fn_md_reckons m)) :=
  gCee.vi (k := 2) (by decide) (gmetG hi hs ⟨plainFor_of_name pn_md, ok_md_reckons, hm, Or.inr (Or.inr (Or.inr (Or.inr (Or.inr (Or.inr ⟨rfl, rfl⟩))))), rfl, fun i c k t hg => gall_spec F_md i _ hg, gall_spec C_md, fun i k rc rt f hg => gall_spec (P := gCl l Z "GraftTreesModel" ⟨5, 0, 0, 112⟩) (xs := (e_md_reckons m).2.2.2.1) ⟨(gm_md_joins hi hm hs).cal (by omega) (by omega) q2890,
    (gm_md_isNumber hi hm hs).cal (by omega) (by omega) q2928,
    (gm_md_error hi hm hs).cal (by omega) (by omega) q2878,
    (gm_md_spread hi hm hs).cal (by omega) (by omega) q2914,
    (gm_md_isZero hi hm hs).cal (by omega) (by omega) q2931,
    (gm_md_divides hi hm hs).cal (by omega) (by omega) q2934,
    (gm_md_multiplies hi hm hs).cal (by omega) (by omega) q2942,
    (gm_md_adds hi hm hs).cal (by omega) (by omega) q2946,
    (gm_md_fitsLong hi hm hs).cal (by omega) (by omega) q2775,
    (gm_md_has hi hm hs).cal (by omega) (by omega) q2822,
    (gm_md_may hi hm hs).cal (by omega) (by omega) q2830,
    (gm_md_settle hi hm hs).cal (by omega) (by omega) q2834,
    (gm_md_asLong hi hm hs).cal (by omega) (by omega) q2781,
    (gm_md_pairBecomes hi hm hs).cal (by omega) (by omega) q2924,
    trivial⟩ i _ hg⟩) q2889 q242 mh_md ds_6 q2888 qs186
theorem gm_md_compare {l : Launch} {Z : gZ} {m : Nat} (hi : gInj Z) (hm : m ≤ zN Z) (hs : gStop.toNat < zN Z) : gCee l Z yX10_compare (ws_ yX10_compare cX10_compare 2 (Option.some Jvm.ClassFile.FieldType.int)) 1 22 2 2 0 0 (.inl (fn_md_compare m)) :=
  gCee.st (k := 2) (gmetF hi ⟨plainFor_of_name pn_md, ok_md_compare, hm, Or.inr (Or.inr (Or.inl ⟨rfl, rfl⟩)), rfl, fun i c k t hg => gall_spec F_md i _ hg, gall_spec C_md, fun i k rc rt f hg => gall_spec (P := gCl l Z "GraftTreesModel" ⟨1, 0, 0, 22⟩) (xs := (e_md_compare m).2.2.2.1) ⟨(gm_md_isZero hi hm hs).cal (by omega) (by omega) q2931,
    (gm_md_compareSizes hi hm hs).cal (by omega) (by omega) q2939,
    trivial⟩ i _ hg⟩) q2960 q242 mh_md ds_59 q2959
theorem gm_md_comparePair {l : Launch} {Z : gZ} {m : Nat} (hi : gInj Z) (hm : m ≤ zN Z) (hs : gStop.toNat < zN Z) : gCee l Z yX10_comparePair (ws_ yX10_comparePair cX10_comparePair 1 (Option.some Jvm.ClassFile.FieldType.int)) 2 43 1 1 20 0 (.inl (fn_md_comparePair m)) :=
  gCee.vi (k := 0) (by decide) (gmetF hi ⟨plainFor_of_name pn_md, ok_md_comparePair, hm, Or.inr (Or.inr (Or.inl ⟨rfl, rfl⟩)), rfl, fun i c k t hg => gall_spec F_md i _ hg, gall_spec C_md, fun i k rc rt f hg => gall_spec (P := gCl l Z "GraftTreesModel" ⟨2, 0, 0, 43⟩) (xs := (e_md_comparePair m).2.2.2.1) ⟨(gm_md_spread hi hm hs).cal (by omega) (by omega) q2914,
    (gm_md_compare hi hm hs).cal (by omega) (by omega) q2958,
    trivial⟩ i _ hg⟩) q2957 q242 mh_md ds_13 q2956 qs200
theorem gm_md_orders {l : Launch} {Z : gZ} {m : Nat} (hi : gInj Z) (hm : m ≤ zN Z) (hs : gStop.toNat < zN Z) : gCee l Z yX10_orders (ws_ yX10_orders cX10_orders 8 (Option.none : Option Jvm.ClassFile.FieldType)) 4 91 8 3 20 5 (.inr (fn_md_orders m)) :=
  gCee.vi (k := 2) (by decide) (gmetG hi hs ⟨plainFor_of_name pn_md, ok_md_orders, hm, Or.inr (Or.inr (Or.inr (Or.inr (Or.inr (Or.inr ⟨rfl, rfl⟩))))), rfl, fun i c k t hg => gall_spec F_md i _ hg, gall_spec C_md, fun i k rc rt f hg => gall_spec (P := gCl l Z "GraftTreesModel" ⟨4, 0, 0, 91⟩) (xs := (e_md_orders m).2.2.2.1) ⟨(gm_md_isNumber hi hm hs).cal (by omega) (by omega) q2928,
    (gm_md_error hi hm hs).cal (by omega) (by omega) q2878,
    (gm_md_has hi hm hs).cal (by omega) (by omega) q2822,
    (gm_md_settle hi hm hs).cal (by omega) (by omega) q2834,
    (gm_md_comparePair hi hm hs).cal (by omega) (by omega) q2954,
    (gm_md_pairBecomes hi hm hs).cal (by omega) (by omega) q2924,
    trivial⟩ i _ hg⟩) q2953 q242 mh_md ds_6 q2952 qs199
theorem gm_md_isSame {l : Launch} {Z : gZ} {m : Nat} (hi : gInj Z) (hm : m ≤ zN Z) (hs : gStop.toNat < zN Z) : gCee l Z yX10_isSame (ws_ yX10_isSame cX10_isSame 5 (Option.some Jvm.ClassFile.FieldType.boolean)) 0 0 5 3 20 0 (.inl (fn_md_isSame m)) :=
  gCee.vi (k := 2) (by decide) (gmetF hi ⟨plainFor_of_name pn_md, ok_md_isSame, hm, Or.inr (Or.inr (Or.inr (Or.inl ⟨rfl, rfl⟩))), rfl, fun i c k t hg => gall_spec F_md i _ hg, gall_spec C_md, fun i k rc rt f hg => gall_spec (P := gCl l Z "GraftTreesModel" ⟨0, 0, 0, 0⟩) (xs := (e_md_isSame m).2.2.2.1) trivial i _ hg⟩) q2968 q242 mh_md ds_51 q2967 qs202
theorem gm_md_compares {l : Launch} {Z : gZ} {m : Nat} (hi : gInj Z) (hm : m ≤ zN Z) (hs : gStop.toNat < zN Z) : gCee l Z yX10_compares (ws_ yX10_compares cX10_compares 11 (Option.none : Option Jvm.ClassFile.FieldType)) 4 91 11 3 20 5 (.inl (fn_md_compares m)) :=
  gCee.vi (k := 2) (by decide) (gmetF hi ⟨plainFor_of_name pn_md, ok_md_compares, hm, Or.inr (Or.inr (Or.inr (Or.inr (Or.inr (Or.inr ⟨rfl, rfl⟩))))), rfl, fun i c k t hg => gall_spec F_md i _ hg, gall_spec C_md, fun i k rc rt f hg => gall_spec (P := gCl l Z "GraftTreesModel" ⟨4, 0, 0, 91⟩) (xs := (e_md_compares m).2.2.2.1) ⟨(gm_md_has hi hm hs).cal (by omega) (by omega) q2822,
    (gm_md_settle hi hm hs).cal (by omega) (by omega) q2834,
    (gm_md_isNumber hi hm hs).cal (by omega) (by omega) q2928,
    (gm_md_comparePair hi hm hs).cal (by omega) (by omega) q2954,
    (gm_md_isSame hi hm hs).cal (by omega) (by omega) q2965,
    (gm_md_pairBecomes hi hm hs).cal (by omega) (by omega) q2924,
    trivial⟩ i _ hg⟩) q2964 q242 mh_md ds_6 q2963 qs201
theorem gm_md_reads {l : Launch} {Z : gZ} {m : Nat} (hi : gInj Z) (hm : m ≤ zN Z) (hs : gStop.toNat < zN Z) : gCee l Z yX10_reads (ws_ yX10_reads cX10_reads 4 (Option.none : Option Jvm.ClassFile.FieldType)) 4 91 4 2 20 5 (.inl (fn_md_reads m)) :=
  gCee.vi (k := 1) (by decide) (gmetF hi ⟨plainFor_of_name pn_md, ok_md_reads, hm, Or.inr (Or.inr (Or.inr (Or.inr (Or.inr (Or.inr ⟨rfl, rfl⟩))))), rfl, fun i c k t hg => gall_spec F_md i _ hg, gall_spec C_md, fun i k rc rt f hg => gall_spec (P := gCl l Z "GraftTreesModel" ⟨4, 0, 0, 91⟩) (xs := (e_md_reads m).2.2.2.1) ⟨(gm_md_has hi hm hs).cal (by omega) (by omega) q2822,
    (gm_md_settle hi hm hs).cal (by omega) (by omega) q2834,
    (gm_md_push hi hm hs).cal (by omega) (by omega) q2795,
    trivial⟩ i _ hg⟩) q2972 q242 mh_md ds_19 q2971 qs203
theorem gm_md_begun {l : Launch} {Z : gZ} {m : Nat} (hi : gInj Z) (hm : m ≤ zN Z) (hs : gStop.toNat < zN Z) : gCee l Z yX10_begun (ws_ yX10_begun cX10_begun 3 (Option.some Jvm.ClassFile.FieldType.boolean)) 1 22 3 3 20 0 (.inl (fn_md_begun m)) :=
  gCee.vi (k := 2) (by decide) (gmetF hi ⟨plainFor_of_name pn_md, ok_md_begun, hm, Or.inr (Or.inr (Or.inr (Or.inl ⟨rfl, rfl⟩))), rfl, fun i c k t hg => gall_spec F_md i _ hg, gall_spec C_md, fun i k rc rt f hg => gall_spec (P := gCl l Z "GraftTreesModel" ⟨1, 0, 0, 22⟩) (xs := (e_md_begun m).2.2.2.1) ⟨(gm_md_task hi hm hs).cal (by omega) (by omega) q2850,
    trivial⟩ i _ hg⟩) q2976 q242 mh_md ds_31 q2975 qs204
theorem gm_md_truth {l : Launch} {Z : gZ} {m : Nat} (hi : gInj Z) (hm : m ≤ zN Z) (hs : gStop.toNat < zN Z) : gCee l Z yX10_truth (ws_ yX10_truth cX10_truth 2 (Option.some Jvm.ClassFile.FieldType.boolean)) 1 22 2 2 20 0 (.inr (fn_md_truth m)) :=
  gCee.vi (k := 1) (by decide) (gmetG hi hs ⟨plainFor_of_name pn_md, ok_md_truth, hm, Or.inr (Or.inr (Or.inr (Or.inl ⟨rfl, rfl⟩))), rfl, fun i c k t hg => gall_spec F_md i _ hg, gall_spec C_md, fun i k rc rt f hg => gall_spec (P := gCl l Z "GraftTreesModel" ⟨1, 0, 0, 22⟩) (xs := (e_md_truth m).2.2.2.1) ⟨(gm_md_error hi hm hs).cal (by omega) (by omega) q2878,
    trivial⟩ i _ hg⟩) q2984 q242 mh_md ds_8 q2983 qs206
theorem gm_md_eitherOrBoth {l : Launch} {Z : gZ} {m : Nat} (hi : gInj Z) (hm : m ≤ zN Z) (hs : gStop.toNat < zN Z) : gCee l Z yX10_eitherOrBoth (ws_ yX10_eitherOrBoth cX10_eitherOrBoth 8 (Option.none : Option Jvm.ClassFile.FieldType)) 4 91 8 4 20 5 (.inr (fn_md_eitherOrBoth m)) :=
  gCee.vi (k := 3) (by decide) (gmetG hi hs ⟨plainFor_of_name pn_md, ok_md_eitherOrBoth, hm, Or.inr (Or.inr (Or.inr (Or.inr (Or.inr (Or.inr ⟨rfl, rfl⟩))))), rfl, fun i c k t hg => gall_spec F_md i _ hg, gall_spec C_md, fun i k rc rt f hg => gall_spec (P := gCl l Z "GraftTreesModel" ⟨4, 0, 0, 91⟩) (xs := (e_md_eitherOrBoth m).2.2.2.1) ⟨(gm_md_task hi hm hs).cal (by omega) (by omega) q2850,
    (gm_md_truth hi hm hs).cal (by omega) (by omega) q2981,
    (gm_md_has hi hm hs).cal (by omega) (by omega) q2822,
    (gm_md_settle hi hm hs).cal (by omega) (by omega) q2834,
    (gm_md_push hi hm hs).cal (by omega) (by omega) q2795,
    (gm_md_error hi hm hs).cal (by omega) (by omega) q2878,
    trivial⟩ i _ hg⟩) q2980 q242 mh_md ds_36 q2979 qs205
theorem gm_md_nameAt {l : Launch} {Z : gZ} {m : Nat} (hi : gInj Z) (hm : m ≤ zN Z) (hs : gStop.toNat < zN Z) : gCee l Z yX10_nameAt (ws_ yX10_nameAt cX10_nameAt 3 (Option.some Jvm.ClassFile.FieldType.long)) 0 0 3 3 20 1 (.inl (fn_md_nameAt m)) :=
  gCee.vi (k := 2) (by decide) (gmetF hi ⟨plainFor_of_name pn_md, ok_md_nameAt, hm, Or.inr (Or.inr (Or.inr (Or.inr (Or.inl ⟨rfl, rfl⟩)))), rfl, fun i c k t hg => gall_spec F_md i _ hg, gall_spec C_md, fun i k rc rt f hg => gall_spec (P := gCl l Z "GraftTreesModel" ⟨0, 0, 0, 0⟩) (xs := (e_md_nameAt m).2.2.2.1) trivial i _ hg⟩) q2992 q242 mh_md ds_60 q2991 qs208
theorem gm_md_propertyAt {l : Launch} {Z : gZ} {m : Nat} (hi : gInj Z) (hm : m ≤ zN Z) (hs : gStop.toNat < zN Z) : gCee l Z yX10_propertyAt (ws_ yX10_propertyAt cX10_propertyAt 5 (Option.some Jvm.ClassFile.FieldType.int)) 1 24 5 3 20 0 (.inl (fn_md_propertyAt m)) :=
  gCee.vi (k := 2) (by decide) (gmetF hi ⟨plainFor_of_name pn_md, ok_md_propertyAt, hm, Or.inr (Or.inr (Or.inl ⟨rfl, rfl⟩)), rfl, fun i c k t hg => gall_spec F_md i _ hg, gall_spec C_md, fun i k rc rt f hg => gall_spec (P := gCl l Z "GraftTreesModel" ⟨1, 0, 0, 24⟩) (xs := (e_md_propertyAt m).2.2.2.1) ⟨(gm_md_isSame hi hm hs).cal (by omega) (by omega) q2965,
    trivial⟩ i _ hg⟩) q2996 q242 mh_md ds_61 q2995 qs209
theorem gm_md_moves {l : Launch} {Z : gZ} {m : Nat} (hi : gInj Z) (hm : m ≤ zN Z) (hs : gStop.toNat < zN Z) : gCee l Z yX10_moves (ws_ yX10_moves cX10_moves 2 (Option.none : Option Jvm.ClassFile.FieldType)) 0 0 2 2 20 5 (.inl (fn_md_moves m)) :=
  gCee.vi (k := 1) (by decide) (gmetF hi ⟨plainFor_of_name pn_md, ok_md_moves, hm, Or.inr (Or.inr (Or.inr (Or.inr (Or.inr (Or.inr ⟨rfl, rfl⟩))))), rfl, fun i c k t hg => gall_spec F_md i _ hg, gall_spec C_md, fun i k rc rt f hg => gall_spec (P := gCl l Z "GraftTreesModel" ⟨0, 0, 0, 0⟩) (xs := (e_md_moves m).2.2.2.1) trivial i _ hg⟩) q3000 q242 mh_md ds_19 q2999 qs210
theorem gm_md_isStale {l : Launch} {Z : gZ} {m : Nat} (hi : gInj Z) (hm : m ≤ zN Z) (hs : gStop.toNat < zN Z) : gCee l Z yX10_isStale (ws_ yX10_isStale cX10_isStale 3 (Option.some Jvm.ClassFile.FieldType.boolean)) 1 21 3 3 20 0 (.inl (fn_md_isStale m)) :=
  gCee.vi (k := 2) (by decide) (gmetF hi ⟨plainFor_of_name pn_md, ok_md_isStale, hm, Or.inr (Or.inr (Or.inr (Or.inl ⟨rfl, rfl⟩))), rfl, fun i c k t hg => gall_spec F_md i _ hg, gall_spec C_md, fun i k rc rt f hg => gall_spec (P := gCl l Z "GraftTreesModel" ⟨1, 0, 0, 21⟩) (xs := (e_md_isStale m).2.2.2.1) ⟨(gm_md_isNewest hi hm hs).cal (by omega) (by omega) q2585,
    trivial⟩ i _ hg⟩) q3008 q242 mh_md ds_31 q3007 qs212
theorem gm_md_enter {l : Launch} {Z : gZ} {m : Nat} (hi : gInj Z) (hm : m ≤ zN Z) (hs : gStop.toNat < zN Z) : gCee l Z yX10_enter (ws_ yX10_enter cX10_enter 10 (Option.none : Option Jvm.ClassFile.FieldType)) 3 68 10 6 20 5 (.inl (fn_md_enter m)) :=
  gCee.vi (k := 5) (by decide) (gmetF hi ⟨plainFor_of_name pn_md, ok_md_enter, hm, Or.inr (Or.inr (Or.inr (Or.inr (Or.inr (Or.inr ⟨rfl, rfl⟩))))), rfl, fun i c k t hg => gall_spec F_md i _ hg, gall_spec C_md, fun i k rc rt f hg => gall_spec (P := gCl l Z "GraftTreesModel" ⟨3, 0, 0, 68⟩) (xs := (e_md_enter m).2.2.2.1) ⟨(gm_md_isStale hi hm hs).cal (by omega) (by omega) q3005,
    (gm_md_changing hi hm hs).cal (by omega) (by omega) q2838,
    trivial⟩ i _ hg⟩) q3004 q242 mh_md ds_47 q3003 qs211
theorem gm_md_gets {l : Launch} {Z : gZ} {m : Nat} (hi : gInj Z) (hm : m ≤ zN Z) (hs : gStop.toNat < zN Z) : gCee l Z yX10_gets (ws_ yX10_gets cX10_gets 7 (Option.none : Option Jvm.ClassFile.FieldType)) 4 97 7 3 20 5 (.inr (fn_md_gets m)) :=
  gCee.vi (k := 2) (by decide) (gmetG hi hs ⟨plainFor_of_name pn_md, ok_md_gets, hm, Or.inr (Or.inr (Or.inr (Or.inr (Or.inr (Or.inr ⟨rfl, rfl⟩))))), rfl, fun i c k t hg => gall_spec F_md i _ hg, gall_spec C_md, fun i k rc rt f hg => gall_spec (P := gCl l Z "GraftTreesModel" ⟨4, 0, 0, 97⟩) (xs := (e_md_gets m).2.2.2.1) ⟨(gm_md_task hi hm hs).cal (by omega) (by omega) q2850,
    (gm_md_error hi hm hs).cal (by omega) (by omega) q2878,
    (gm_md_nameAt hi hm hs).cal (by omega) (by omega) q2989,
    (gm_md_propertyAt hi hm hs).cal (by omega) (by omega) q2993,
    (gm_md_moves hi hm hs).cal (by omega) (by omega) q2997,
    (gm_md_enter hi hm hs).cal (by omega) (by omega) q3001,
    (gm_md_push hi hm hs).cal (by omega) (by omega) q2795,
    trivial⟩ i _ hg⟩) q2988 q242 mh_md ds_6 q2987 qs207
theorem gm_md_heirOf {l : Launch} {Z : gZ} {m : Nat} (hi : gInj Z) (hm : m ≤ zN Z) (hs : gStop.toNat < zN Z) : gCee l Z yX10_heirOf (ws_ yX10_heirOf cX10_heirOf 3 (Option.some Jvm.ClassFile.FieldType.int)) 0 0 3 2 20 0 (.inl (fn_md_heirOf m)) :=
  gCee.vi (k := 1) (by decide) (gmetF hi ⟨plainFor_of_name pn_md, ok_md_heirOf, hm, Or.inr (Or.inr (Or.inl ⟨rfl, rfl⟩)), rfl, fun i c k t hg => gall_spec F_md i _ hg, gall_spec C_md, fun i k rc rt f hg => gall_spec (P := gCl l Z "GraftTreesModel" ⟨0, 0, 0, 0⟩) (xs := (e_md_heirOf m).2.2.2.1) trivial i _ hg⟩) q3016 q242 mh_md ds_16 q3015 qs214
theorem gm_md_childOf {l : Launch} {Z : gZ} {m : Nat} (hi : gInj Z) (hm : m ≤ zN Z) (hs : gStop.toNat < zN Z) : gCee l Z yX10_childOf (ws_ yX10_childOf cX10_childOf 6 (Option.some Jvm.ClassFile.FieldType.int)) 1 24 6 4 20 0 (.inl (fn_md_childOf m)) :=
  gCee.vi (k := 3) (by decide) (gmetF hi ⟨plainFor_of_name pn_md, ok_md_childOf, hm, Or.inr (Or.inr (Or.inl ⟨rfl, rfl⟩)), rfl, fun i c k t hg => gall_spec F_md i _ hg, gall_spec C_md, fun i k rc rt f hg => gall_spec (P := gCl l Z "GraftTreesModel" ⟨1, 0, 0, 24⟩) (xs := (e_md_childOf m).2.2.2.1) ⟨(gm_md_isSame hi hm hs).cal (by omega) (by omega) q2965,
    trivial⟩ i _ hg⟩) q3020 q242 mh_md ds_62 q3019 qs215
theorem gm_md_shapeComes {l : Launch} {Z : gZ} {m : Nat} (hi : gInj Z) (hm : m ≤ zN Z) (hs : gStop.toNat < zN Z) : gCee l Z yX10_shapeComes (ws_ yX10_shapeComes cX10_shapeComes 6 (Option.some Jvm.ClassFile.FieldType.int)) 2 53 6 4 20 0 (.inl (fn_md_shapeComes m)) :=
  gCee.vi (k := 3) (by decide) (gmetF hi ⟨plainFor_of_name pn_md, ok_md_shapeComes, hm, Or.inr (Or.inr (Or.inl ⟨rfl, rfl⟩)), rfl, fun i c k t hg => gall_spec F_md i _ hg, gall_spec C_md, fun i k rc rt f hg => gall_spec (P := gCl l Z "GraftTreesModel" ⟨2, 0, 0, 53⟩) (xs := (e_md_shapeComes m).2.2.2.1) ⟨(gm_md_keep_2 hi hm hs).cal (by omega) (by omega) q2073,
    trivial⟩ i _ hg⟩) q3024 q242 mh_md ds_62 q3023 qs216
theorem gm_md_withLast {l : Launch} {Z : gZ} {m : Nat} (hi : gInj Z) (hm : m ≤ zN Z) (hs : gStop.toNat < zN Z) : gCee l Z yX10_withLast (ws_ yX10_withLast cX10_withLast 4 (Option.some Jvm.ClassFile.FieldType.int)) 0 0 4 3 20 0 (.inl (fn_md_withLast m)) :=
  gCee.vi (k := 2) (by decide) (gmetF hi ⟨plainFor_of_name pn_md, ok_md_withLast, hm, Or.inr (Or.inr (Or.inl ⟨rfl, rfl⟩)), rfl, fun i c k t hg => gall_spec F_md i _ hg, gall_spec C_md, fun i k rc rt f hg => gall_spec (P := gCl l Z "GraftTreesModel" ⟨0, 0, 0, 0⟩) (xs := (e_md_withLast m).2.2.2.1) trivial i _ hg⟩) q3028 q242 mh_md ds_0 q3027 qs217
theorem gm_md_lacking {l : Launch} {Z : gZ} {m : Nat} (hi : gInj Z) (hm : m ≤ zN Z) (hs : gStop.toNat < zN Z) : gCee l Z yX10_lacking (ws_ yX10_lacking cX10_lacking 6 (Option.some Jvm.ClassFile.FieldType.int)) 2 49 6 3 20 0 (.inl (fn_md_lacking m)) :=
  gCee.vi (k := 2) (by decide) (gmetF hi ⟨plainFor_of_name pn_md, ok_md_lacking, hm, Or.inr (Or.inr (Or.inl ⟨rfl, rfl⟩)), rfl, fun i c k t hg => gall_spec F_md i _ hg, gall_spec C_md, fun i k rc rt f hg => gall_spec (P := gCl l Z "GraftTreesModel" ⟨2, 0, 0, 49⟩) (xs := (e_md_lacking m).2.2.2.1) ⟨(gm_md_withLast hi hm hs).cal (by omega) (by omega) q3025,
    (gm_md_childOf hi hm hs).cal (by omega) (by omega) q3017,
    trivial⟩ i _ hg⟩) q3032 q242 mh_md ds_0 q3031 qs218
theorem gm_md_heirComes {l : Launch} {Z : gZ} {m : Nat} (hi : gInj Z) (hm : m ≤ zN Z) (hs : gStop.toNat < zN Z) : gCee l Z yX10_heirComes (ws_ yX10_heirComes cX10_heirComes 8 (Option.some Jvm.ClassFile.FieldType.int)) 3 78 8 3 20 0 (.inl (fn_md_heirComes m)) :=
  gCee.vi (k := 2) (by decide) (gmetF hi ⟨plainFor_of_name pn_md, ok_md_heirComes, hm, Or.inr (Or.inr (Or.inl ⟨rfl, rfl⟩)), rfl, fun i c k t hg => gall_spec F_md i _ hg, gall_spec C_md, fun i k rc rt f hg => gall_spec (P := gCl l Z "GraftTreesModel" ⟨3, 0, 0, 78⟩) (xs := (e_md_heirComes m).2.2.2.1) ⟨(gm_md_withLast hi hm hs).cal (by omega) (by omega) q3025,
    (gm_md_childOf hi hm hs).cal (by omega) (by omega) q3017,
    (gm_md_shapeComes hi hm hs).cal (by omega) (by omega) q3021,
    trivial⟩ i _ hg⟩) q3036 q242 mh_md ds_0 q3035 qs219
theorem gm_md_endCodesOfShape {l : Launch} {Z : gZ} {m : Nat} (hi : gInj Z) (hm : m ≤ zN Z) (hs : gStop.toNat < zN Z) : gCee l Z yX10_endCodesOfShape (ws_ yX10_endCodesOfShape cX10_endCodesOfShape 8 (Option.none : Option Jvm.ClassFile.FieldType)) 1 22 8 2 20 5 (.inl (fn_md_endCodesOfShape m)) :=
  gCee.vi (k := 1) (by decide) (gmetF hi ⟨plainFor_of_name pn_md, ok_md_endCodesOfShape, hm, Or.inr (Or.inr (Or.inr (Or.inr (Or.inr (Or.inr ⟨rfl, rfl⟩))))), rfl, fun i c k t hg => gall_spec F_md i _ hg, gall_spec C_md, fun i k rc rt f hg => gall_spec (P := gCl l Z "GraftTreesModel" ⟨1, 0, 0, 22⟩) (xs := (e_md_endCodesOfShape m).2.2.2.1) ⟨(gm_md_unit hi hm hs).cal (by omega) (by omega) q2096,
    (gm_md_endCode hi hm hs).cal (by omega) (by omega) q2100,
    trivial⟩ i _ hg⟩) q3040 q242 mh_md ds_19 q3039 qs220
theorem gm_md_puts {l : Launch} {Z : gZ} {m : Nat} (hi : gInj Z) (hm : m ≤ zN Z) (hs : gStop.toNat < zN Z) : gCee l Z yX10_puts (ws_ yX10_puts cX10_puts 15 (Option.none : Option Jvm.ClassFile.FieldType)) 4 105 15 3 20 5 (.inr (fn_md_puts m)) :=
  gCee.vi (k := 2) (by decide) (gmetG hi hs ⟨plainFor_of_name pn_md, ok_md_puts, hm, Or.inr (Or.inr (Or.inr (Or.inr (Or.inr (Or.inr ⟨rfl, rfl⟩))))), rfl, fun i c k t hg => gall_spec F_md i _ hg, gall_spec C_md, fun i k rc rt f hg => gall_spec (P := gCl l Z "GraftTreesModel" ⟨4, 0, 0, 105⟩) (xs := (e_md_puts m).2.2.2.1) ⟨(gm_md_task hi hm hs).cal (by omega) (by omega) q2850,
    (gm_md_error hi hm hs).cal (by omega) (by omega) q2878,
    (gm_md_nameAt hi hm hs).cal (by omega) (by omega) q2989,
    (gm_md_heirOf hi hm hs).cal (by omega) (by omega) q3013,
    (gm_md_propertyAt hi hm hs).cal (by omega) (by omega) q2993,
    (gm_md_childOf hi hm hs).cal (by omega) (by omega) q3017,
    (gm_md_moves hi hm hs).cal (by omega) (by omega) q2997,
    (gm_md_shapeComes hi hm hs).cal (by omega) (by omega) q3021,
    (gm_md_enter hi hm hs).cal (by omega) (by omega) q3001,
    (gm_md_withLast hi hm hs).cal (by omega) (by omega) q3025,
    (gm_md_lacking hi hm hs).cal (by omega) (by omega) q3029,
    (gm_md_heirComes hi hm hs).cal (by omega) (by omega) q3033,
    (gm_md_endCodesOfShape hi hm hs).cal (by omega) (by omega) q3037,
    (gm_md_push hi hm hs).cal (by omega) (by omega) q2795,
    trivial⟩ i _ hg⟩) q3012 q242 mh_md ds_6 q3011 qs213
theorem gm_md_prints {l : Launch} {Z : gZ} {m : Nat} (hi : gInj Z) (hm : m ≤ zN Z) (hs : gStop.toNat < zN Z) : gCee l Z yX10_prints (ws_ yX10_prints cX10_prints 2 (Option.none : Option Jvm.ClassFile.FieldType)) 0 0 2 2 20 5 (.inl (fn_md_prints m)) :=
  gCee.vi (k := 1) (by decide) (gmetF hi ⟨plainFor_of_name pn_md, ok_md_prints, hm, Or.inr (Or.inr (Or.inr (Or.inr (Or.inr (Or.inr ⟨rfl, rfl⟩))))), rfl, fun i c k t hg => gall_spec F_md i _ hg, gall_spec C_md, fun i k rc rt f hg => gall_spec (P := gCl l Z "GraftTreesModel" ⟨0, 0, 0, 0⟩) (xs := (e_md_prints m).2.2.2.1) trivial i _ hg⟩) q3048 q242 mh_md ds_19 q3047 qs222
theorem gm_md_defines {l : Launch} {Z : gZ} {m : Nat} (hi : gInj Z) (hm : m ≤ zN Z) (hs : gStop.toNat < zN Z) : gCee l Z yX10_defines (wsW_ yX10_defines cX10_defines 7 (Option.none : Option Jvm.ClassFile.FieldType) [(58, 62, 65, 7)]) 371 9422 7 4 20 5 (.inr (fn_md_defines m)) :=
  gCee.viH (k := 3) (by decide) (gmetGH hi hs ⟨plainFor_of_name pn_md, ok_md_defines, hm, Or.inr (Or.inr (Or.inr (Or.inr (Or.inr (Or.inr ⟨rfl, rfl⟩))))), ⟨rfl, by decide, rfl, q1993⟩, fun i c k t hg => gall_spec F_md i _ hg, gall_spec C_md, fun i k rc rt f hg => gall_spec (P := gCl l Z "GraftTreesModel" ⟨371, 0, 0, 9422⟩) (xs := (e_md_defines m).2.2.2.1) ⟨(gm_md_error hi hm hs).cal (by omega) (by omega) q2878,
    (gm_md_sizeOf hi hm hs).cal (by omega) (by omega) q2902,
    (gm_md_letter hi hm hs).cal (by omega) (by omega) q2906,
    (gm_md_readText hi hm hs).cal (by omega) (by omega) q2622,
    (gm_md_define hi hm hs).cal (by omega) (by omega) q2754,
    trivial⟩ i _ hg⟩) q3052 q242 mh_md ds_39 q3051 qs223
theorem gm_md_calls {l : Launch} {Z : gZ} {m : Nat} (hi : gInj Z) (hm : m ≤ zN Z) (hs : gStop.toNat < zN Z) : gCee l Z yX10_calls (ws_ yX10_calls cX10_calls 15 (Option.none : Option Jvm.ClassFile.FieldType)) 372 9448 15 3 20 5 (.inr (fn_md_calls m)) :=
  gCee.vi (k := 2) (by decide) (gmetG hi hs ⟨plainFor_of_name pn_md, ok_md_calls, hm, Or.inr (Or.inr (Or.inr (Or.inr (Or.inr (Or.inr ⟨rfl, rfl⟩))))), rfl, fun i c k t hg => gall_spec F_md i _ hg, gall_spec C_md, fun i k rc rt f hg => gall_spec (P := gCl l Z "GraftTreesModel" ⟨372, 0, 0, 9448⟩) (xs := (e_md_calls m).2.2.2.1) ⟨(gm_md_task hi hm hs).cal (by omega) (by omega) q2850,
    (gm_md_error hi hm hs).cal (by omega) (by omega) q2878,
    (gm_md_enter hi hm hs).cal (by omega) (by omega) q3001,
    (gm_md_activate hi hm hs).cal (by omega) (by omega) q2799,
    (gm_md_more hi hm hs).cal (by omega) (by omega) q2803,
    (gm_md_show hi hm hs).cal (by omega) (by omega) q2894,
    (gm_md_prints hi hm hs).cal (by omega) (by omega) q3045,
    (gm_md_defines hi hm hs).cal (by omega) (by omega) q3049,
    (gm_md_push hi hm hs).cal (by omega) (by omega) q2795,
    (gm_md_falls hi hm hs).cal (by omega) (by omega) q2870,
    trivial⟩ i _ hg⟩) q3044 q242 mh_md ds_6 q3043 qs221
theorem gm_md_choice {l : Launch} {Z : gZ} {m : Nat} (hi : gInj Z) (hm : m ≤ zN Z) (hs : gStop.toNat < zN Z) : gCee l Z yX10_choice (ws_ yX10_choice cX10_choice 4 (Option.some Jvm.ClassFile.FieldType.boolean)) 4 91 4 2 20 0 (.inr (fn_md_choice m)) :=
  gCee.vi (k := 1) (by decide) (gmetG hi hs ⟨plainFor_of_name pn_md, ok_md_choice, hm, Or.inr (Or.inr (Or.inr (Or.inl ⟨rfl, rfl⟩))), rfl, fun i c k t hg => gall_spec F_md i _ hg, gall_spec C_md, fun i k rc rt f hg => gall_spec (P := gCl l Z "GraftTreesModel" ⟨4, 0, 0, 91⟩) (xs := (e_md_choice m).2.2.2.1) ⟨(gm_md_truth hi hm hs).cal (by omega) (by omega) q2981,
    (gm_md_has hi hm hs).cal (by omega) (by omega) q2822,
    (gm_md_settle hi hm hs).cal (by omega) (by omega) q2834,
    trivial⟩ i _ hg⟩) q3056 q242 mh_md ds_8 q3055 qs224
theorem gm_md_repeats {l : Launch} {Z : gZ} {m : Nat} (hi : gInj Z) (hm : m ≤ zN Z) (hs : gStop.toNat < zN Z) : gCee l Z yX10_repeats (ws_ yX10_repeats cX10_repeats 4 (Option.none : Option Jvm.ClassFile.FieldType)) 5 114 4 3 20 5 (.inr (fn_md_repeats m)) :=
  gCee.vi (k := 2) (by decide) (gmetG hi hs ⟨plainFor_of_name pn_md, ok_md_repeats, hm, Or.inr (Or.inr (Or.inr (Or.inr (Or.inr (Or.inr ⟨rfl, rfl⟩))))), rfl, fun i c k t hg => gall_spec F_md i _ hg, gall_spec C_md, fun i k rc rt f hg => gall_spec (P := gCl l Z "GraftTreesModel" ⟨5, 0, 0, 114⟩) (xs := (e_md_repeats m).2.2.2.1) ⟨(gm_md_step hi hm hs).cal (by omega) (by omega) q2874,
    (gm_md_falls hi hm hs).cal (by omega) (by omega) q2870,
    (gm_md_heat hi hm hs).cal (by omega) (by omega) q2810,
    (gm_md_enterCode hi hm hs).cal (by omega) (by omega) q2814,
    (gm_md_task hi hm hs).cal (by omega) (by omega) q2850,
    (gm_md_choice hi hm hs).cal (by omega) (by omega) q3053,
    trivial⟩ i _ hg⟩) q3060 q242 mh_md ds_6 q3059 qs225
theorem gm_md_works {l : Launch} {Z : gZ} {m : Nat} (hi : gInj Z) (hm : m ≤ zN Z) (hs : gStop.toNat < zN Z) : gCee l Z yX10_works (ws_ yX10_works cX10_works 5 (Option.none : Option Jvm.ClassFile.FieldType)) 373 9482 5 4 20 5 (.inr (fn_md_works m)) :=
  gCee.vi (k := 3) (by decide) (gmetG hi hs ⟨plainFor_of_name pn_md, ok_md_works, hm, Or.inr (Or.inr (Or.inr (Or.inr (Or.inr (Or.inr ⟨rfl, rfl⟩))))), rfl, fun i c k t hg => gall_spec F_md i _ hg, gall_spec C_md, fun i k rc rt f hg => gall_spec (P := gCl l Z "GraftTreesModel" ⟨373, 0, 0, 9482⟩) (xs := (e_md_works m).2.2.2.1) ⟨(gm_md_task hi hm hs).cal (by omega) (by omega) q2850,
    (gm_md_reckons hi hm hs).cal (by omega) (by omega) q2886,
    (gm_md_orders hi hm hs).cal (by omega) (by omega) q2950,
    (gm_md_compares hi hm hs).cal (by omega) (by omega) q2961,
    (gm_md_reads hi hm hs).cal (by omega) (by omega) q2969,
    (gm_md_begun hi hm hs).cal (by omega) (by omega) q2973,
    (gm_md_sets hi hm hs).cal (by omega) (by omega) q2818,
    (gm_md_eitherOrBoth hi hm hs).cal (by omega) (by omega) q2977,
    (gm_md_truth hi hm hs).cal (by omega) (by omega) q2981,
    (gm_md_push hi hm hs).cal (by omega) (by omega) q2795,
    (gm_md_gets hi hm hs).cal (by omega) (by omega) q2985,
    (gm_md_puts hi hm hs).cal (by omega) (by omega) q3009,
    (gm_md_calls hi hm hs).cal (by omega) (by omega) q3041,
    (gm_md_choice hi hm hs).cal (by omega) (by omega) q3053,
    (gm_md_repeats hi hm hs).cal (by omega) (by omega) q3057,
    (gm_md_comesBack hi hm hs).cal (by omega) (by omega) q2866,
    trivial⟩ i _ hg⟩) q2885 q242 mh_md ds_36 q2884 qs185
theorem gm_md_work {l : Launch} {Z : gZ} {m : Nat} (hi : gInj Z) (hm : m ≤ zN Z) (hs : gStop.toNat < zN Z) : gCee l Z yX10_work (ws_ yX10_work cX10_work 3 (Option.none : Option Jvm.ClassFile.FieldType)) 374 9506 3 1 20 5 (.inr (fn_md_work m)) :=
  gCee.vi (k := 0) (by decide) (gmetG hi hs ⟨plainFor_of_name pn_md, ok_md_work, hm, Or.inr (Or.inr (Or.inr (Or.inr (Or.inr (Or.inr ⟨rfl, rfl⟩))))), rfl, fun i c k t hg => gall_spec F_md i _ hg, gall_spec C_md, fun i k rc rt f hg => gall_spec (P := gCl l Z "GraftTreesModel" ⟨374, 0, 0, 9506⟩) (xs := (e_md_work m).2.2.2.1) ⟨(gm_md_row hi hm hs).cal (by omega) (by omega) q2862,
    (gm_md_works hi hm hs).cal (by omega) (by omega) q2882,
    trivial⟩ i _ hg⟩) q2861 q242 mh_md ds_26 q2860 qs179
theorem gm_md_goOn {l : Launch} {Z : gZ} {m : Nat} (hi : gInj Z) (hm : m ≤ zN Z) (hs : gStop.toNat < zN Z) : gCee l Z yX10_goOn (wsW_ yX10_goOn cX10_goOn 3 (Option.none : Option Jvm.ClassFile.FieldType) [(15, 37, 40, 7)]) 375 9528 3 2 20 5 (.inl (fn_md_goOn m)) :=
  gCee.viH (k := 1) (by decide) (gmetFH hi hs ⟨plainFor_of_name pn_md, ok_md_goOn, hm, Or.inr (Or.inr (Or.inr (Or.inr (Or.inr (Or.inr ⟨rfl, rfl⟩))))), ⟨rfl, by decide, rfl, q1993⟩, fun i c k t hg => gall_spec F_md i _ hg, gall_spec C_md, fun i k rc rt f hg => gall_spec (P := gCl l Z "GraftTreesModel" ⟨375, 0, 0, 9528⟩) (xs := (e_md_goOn m).2.2.2.1) ⟨(gm_md_work hi hm hs).cal (by omega) (by omega) q2858,
    trivial⟩ i _ hg⟩) q2857 q242 mh_md ds_19 q2856 qs178
theorem gm_md_start {l : Launch} {Z : gZ} {m : Nat} (hi : gInj Z) (hm : m ≤ zN Z) (hs : gStop.toNat < zN Z) : gCee l Z yX10_start (ws_ yX10_start cX10_start 7 (Option.some Jvm.ClassFile.FieldType.boolean)) 376 9550 7 3 20 0 (.inl (fn_md_start m)) :=
  gCee.vi (k := 2) (by decide) (gmetF hi ⟨plainFor_of_name pn_md, ok_md_start, hm, Or.inr (Or.inr (Or.inr (Or.inl ⟨rfl, rfl⟩))), rfl, fun i c k t hg => gall_spec F_md i _ hg, gall_spec C_md, fun i k rc rt f hg => gall_spec (P := gCl l Z "GraftTreesModel" ⟨376, 0, 0, 9550⟩) (xs := (e_md_start m).2.2.2.1) ⟨(gm_md_keep hi hm hs).cal (by omega) (by omega) q2067,
    (gm_md_functionOf hi hm hs).cal (by omega) (by omega) q2084,
    (gm_md_noRun hi hm hs).cal (by omega) (by omega) q2618,
    (gm_md_push hi hm hs).cal (by omega) (by omega) q2795,
    (gm_md_activate hi hm hs).cal (by omega) (by omega) q2799,
    (gm_md_goOn hi hm hs).cal (by omega) (by omega) q2854,
    trivial⟩ i _ hg⟩) q2793 q242 mh_md ds_51 q2791 q2792
theorem gm_md_run {l : Launch} {Z : gZ} {m : Nat} (hi : gInj Z) (hm : m ≤ zN Z) (hs : gStop.toNat < zN Z) : gCee l Z yX10_run (ws_ yX10_run cX10_run 2 (Option.some Jvm.ClassFile.FieldType.int)) 376 9550 2 2 20 0 (.inl (fn_md_run m)) :=
  gCee.vi (k := 1) (by decide) (gmetF hi ⟨plainFor_of_name pn_md, ok_md_run, hm, Or.inr (Or.inr (Or.inl ⟨rfl, rfl⟩)), rfl, fun i c k t hg => gall_spec F_md i _ hg, gall_spec C_md, fun i k rc rt f hg => gall_spec (P := gCl l Z "GraftTreesModel" ⟨376, 0, 0, 9550⟩) (xs := (e_md_run m).2.2.2.1) ⟨(gm_md_goOn hi hm hs).cal (by omega) (by omega) q2854,
    trivial⟩ i _ hg⟩) q3064 q242 mh_md ds_16 q3062 q3063
theorem gm_md_state {l : Launch} {Z : gZ} {m : Nat} (hi : gInj Z) (hm : m ≤ zN Z) (hs : gStop.toNat < zN Z) : gCee l Z yX10_state (ws_ yX10_state cX10_state 1 (Option.some Jvm.ClassFile.FieldType.int)) 0 0 1 1 20 0 (.inl (fn_md_state m)) :=
  gCee.vi (k := 0) (by decide) (gmetF hi ⟨plainFor_of_name pn_md, ok_md_state, hm, Or.inr (Or.inr (Or.inl ⟨rfl, rfl⟩)), rfl, fun i c k t hg => gall_spec F_md i _ hg, gall_spec C_md, fun i k rc rt f hg => gall_spec (P := gCl l Z "GraftTreesModel" ⟨0, 0, 0, 0⟩) (xs := (e_md_state m).2.2.2.1) trivial i _ hg⟩) q3068 q242 mh_md ds_13 q3066 q3067
theorem gm_md_error_2 {l : Launch} {Z : gZ} {m : Nat} (hi : gInj Z) (hm : m ≤ zN Z) (hs : gStop.toNat < zN Z) : gCee l Z yX10_error_2 (ws_ yX10_error_2 cX10_error_2 2 (Option.some Jvm.ClassFile.FieldType.int)) 0 0 2 2 20 0 (.inl (fn_md_error_2 m)) :=
  gCee.vi (k := 1) (by decide) (gmetF hi ⟨plainFor_of_name pn_md, ok_md_error_2, hm, Or.inr (Or.inr (Or.inl ⟨rfl, rfl⟩)), rfl, fun i c k t hg => gall_spec F_md i _ hg, gall_spec C_md, fun i k rc rt f hg => gall_spec (P := gCl l Z "GraftTreesModel" ⟨0, 0, 0, 0⟩) (xs := (e_md_error_2 m).2.2.2.1) trivial i _ hg⟩) q3072 q242 mh_md ds_16 q3070 q3071
theorem gm_md_result {l : Launch} {Z : gZ} {m : Nat} (hi : gInj Z) (hm : m ≤ zN Z) (hs : gStop.toNat < zN Z) : gCee l Z yX10_result (ws_ yX10_result cX10_result 2 (Option.some Jvm.ClassFile.FieldType.int)) 4 91 2 2 20 0 (.inl (fn_md_result m)) :=
  gCee.vi (k := 1) (by decide) (gmetF hi ⟨plainFor_of_name pn_md, ok_md_result, hm, Or.inr (Or.inr (Or.inl ⟨rfl, rfl⟩)), rfl, fun i c k t hg => gall_spec F_md i _ hg, gall_spec C_md, fun i k rc rt f hg => gall_spec (P := gCl l Z "GraftTreesModel" ⟨4, 0, 0, 91⟩) (xs := (e_md_result m).2.2.2.1) ⟨(gm_md_show hi hm hs).cal (by omega) (by omega) q2894,
    trivial⟩ i _ hg⟩) q3076 q242 mh_md ds_16 q3074 q3075
theorem gm_md_out {l : Launch} {Z : gZ} {m : Nat} (hi : gInj Z) (hm : m ≤ zN Z) (hs : gStop.toNat < zN Z) : gCee l Z yX10_out (ws_ yX10_out cX10_out 2 (Option.some Jvm.ClassFile.FieldType.int)) 0 0 2 2 20 0 (.inl (fn_md_out m)) :=
  gCee.vi (k := 1) (by decide) (gmetF hi ⟨plainFor_of_name pn_md, ok_md_out, hm, Or.inr (Or.inr (Or.inl ⟨rfl, rfl⟩)), rfl, fun i c k t hg => gall_spec F_md i _ hg, gall_spec C_md, fun i k rc rt f hg => gall_spec (P := gCl l Z "GraftTreesModel" ⟨0, 0, 0, 0⟩) (xs := (e_md_out m).2.2.2.1) trivial i _ hg⟩) q3080 q242 mh_md ds_16 q3078 q3079
theorem gm_md_root {l : Launch} {Z : gZ} {m : Nat} (hi : gInj Z) (hm : m ≤ zN Z) (hs : gStop.toNat < zN Z) : gCee l Z yX10_root (ws_ yX10_root cX10_root 4 (Option.some Jvm.ClassFile.FieldType.int)) 2 45 4 3 20 0 (.inl (fn_md_root m)) :=
  gCee.vi (k := 2) (by decide) (gmetF hi ⟨plainFor_of_name pn_md, ok_md_root, hm, Or.inr (Or.inr (Or.inl ⟨rfl, rfl⟩)), rfl, fun i c k t hg => gall_spec F_md i _ hg, gall_spec C_md, fun i k rc rt f hg => gall_spec (P := gCl l Z "GraftTreesModel" ⟨2, 0, 0, 45⟩) (xs := (e_md_root m).2.2.2.1) ⟨(gm_md_letter hi hm hs).cal (by omega) (by omega) q2906,
    (gm_md_isNewest hi hm hs).cal (by omega) (by omega) q2585,
    trivial⟩ i _ hg⟩) q3084 q242 mh_md ds_0 q3082 q3083
theorem gm_md_node {l : Launch} {Z : gZ} {m : Nat} (hi : gInj Z) (hm : m ≤ zN Z) (hs : gStop.toNat < zN Z) : gCee l Z yX10_node (ws_ yX10_node cX10_node 6 (Option.some Jvm.ClassFile.FieldType.int)) 0 0 6 4 20 0 (.inl (fn_md_node m)) :=
  gCee.vi (k := 3) (by decide) (gmetF hi ⟨plainFor_of_name pn_md, ok_md_node, hm, Or.inr (Or.inr (Or.inl ⟨rfl, rfl⟩)), rfl, fun i c k t hg => gall_spec F_md i _ hg, gall_spec C_md, fun i k rc rt f hg => gall_spec (P := gCl l Z "GraftTreesModel" ⟨0, 0, 0, 0⟩) (xs := (e_md_node m).2.2.2.1) trivial i _ hg⟩) q3088 q242 mh_md ds_35 q3086 q3087
theorem gm_md_shape {l : Launch} {Z : gZ} {m : Nat} (hi : gInj Z) (hm : m ≤ zN Z) (hs : gStop.toNat < zN Z) : gCee l Z yX10_shape (ws_ yX10_shape cX10_shape 3 (Option.some Jvm.ClassFile.FieldType.int)) 2 45 3 3 20 0 (.inl (fn_md_shape m)) :=
  gCee.vi (k := 2) (by decide) (gmetF hi ⟨plainFor_of_name pn_md, ok_md_shape, hm, Or.inr (Or.inr (Or.inl ⟨rfl, rfl⟩)), rfl, fun i c k t hg => gall_spec F_md i _ hg, gall_spec C_md, fun i k rc rt f hg => gall_spec (P := gCl l Z "GraftTreesModel" ⟨2, 0, 0, 45⟩) (xs := (e_md_shape m).2.2.2.1) ⟨(gm_md_letter hi hm hs).cal (by omega) (by omega) q2906,
    trivial⟩ i _ hg⟩) q3092 q242 mh_md ds_0 q3090 q3091
theorem gm_md_code {l : Launch} {Z : gZ} {m : Nat} (hi : gInj Z) (hm : m ≤ zN Z) (hs : gStop.toNat < zN Z) : gCee l Z yX10_code (ws_ yX10_code cX10_code 3 (Option.some Jvm.ClassFile.FieldType.int)) 1 22 3 3 20 0 (.inl (fn_md_code m)) :=
  gCee.vi (k := 2) (by decide) (gmetF hi ⟨plainFor_of_name pn_md, ok_md_code, hm, Or.inr (Or.inr (Or.inl ⟨rfl, rfl⟩)), rfl, fun i c k t hg => gall_spec F_md i _ hg, gall_spec C_md, fun i k rc rt f hg => gall_spec (P := gCl l Z "GraftTreesModel" ⟨1, 0, 0, 22⟩) (xs := (e_md_code m).2.2.2.1) ⟨(gm_md_unit hi hm hs).cal (by omega) (by omega) q2096,
    trivial⟩ i _ hg⟩) q3096 q242 mh_md ds_0 q3094 q3095
theorem gm_md_frame {l : Launch} {Z : gZ} {m : Nat} (hi : gInj Z) (hm : m ≤ zN Z) (hs : gStop.toNat < zN Z) : gCee l Z yX10_frame (ws_ yX10_frame cX10_frame 4 (Option.some Jvm.ClassFile.FieldType.int)) 0 0 4 3 20 0 (.inl (fn_md_frame m)) :=
  gCee.vi (k := 2) (by decide) (gmetF hi ⟨plainFor_of_name pn_md, ok_md_frame, hm, Or.inr (Or.inr (Or.inl ⟨rfl, rfl⟩)), rfl, fun i c k t hg => gall_spec F_md i _ hg, gall_spec C_md, fun i k rc rt f hg => gall_spec (P := gCl l Z "GraftTreesModel" ⟨0, 0, 0, 0⟩) (xs := (e_md_frame m).2.2.2.1) trivial i _ hg⟩) q3100 q242 mh_md ds_0 q3098 q3099
theorem gm_md_total {l : Launch} {Z : gZ} {m : Nat} (hi : gInj Z) (hm : m ≤ zN Z) (hs : gStop.toNat < zN Z) : gCee l Z yX10_total (ws_ yX10_total cX10_total 2 (Option.some Jvm.ClassFile.FieldType.int)) 0 0 2 2 20 0 (.inl (fn_md_total m)) :=
  gCee.vi (k := 1) (by decide) (gmetF hi ⟨plainFor_of_name pn_md, ok_md_total, hm, Or.inr (Or.inr (Or.inl ⟨rfl, rfl⟩)), rfl, fun i c k t hg => gall_spec F_md i _ hg, gall_spec C_md, fun i k rc rt f hg => gall_spec (P := gCl l Z "GraftTreesModel" ⟨0, 0, 0, 0⟩) (xs := (e_md_total m).2.2.2.1) trivial i _ hg⟩) q3104 q242 mh_md ds_16 q3102 q3103
